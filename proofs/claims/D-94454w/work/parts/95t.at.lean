set_option maxRecDepth 100000
/-! ===== at a door ===== -/
def nbr (c k : Nat) : Int × Int := (((c % 10 : Nat) : Int) + ((k % 3 : Nat) : Int) - 1, ((c / 10 : Nat) : Int) + ((k / 3 : Nat) : Int) - 1)
def near (r : Row) (an : Nat → Nat) (d c k : Nat) : Bool := decide (k ≠ 4) && (inH r (nbr c k) && (decide (cellN (nbr c k) ∈ lfD r an d) || decide (cellN (nbr c k) ∈ leafC r d (hgN r d) 0)))
def atB (r : Row) (an : Nat → Nat) (d c : Nat) : Bool := anyN (near r an d c) 9
theorem nbr_b {c k : Nat} (hc : c < 100) (hk : k < 9) : -5 ≤ (nbr c k).1 ∧ (nbr c k).1 ≤ 20 ∧ -5 ≤ (nbr c k).2 ∧ (nbr c k).2 ≤ 20 := by
  unfold nbr; dsimp only; omega
theorem inH_cell {r : Row} (ok : okRow r) {q : Int × Int} (h : inH r q = true) : cellN q < 100 ∧ iZ q.1 = nI q.1.toNat ∧ iZ q.2 = nI q.2.toNat ∧ cellN q = 10 * q.2.toNat + q.1.toNat ∧ q.1.toNat < rN r 0 ∧ q.2.toNat < rN r 1 := by
  have := ok.1.2
  have := ok.2.1.2
  unfold inH at h
  simp only [Bool.and_eq_true, decide_eq_true_eq] at h
  unfold cellN
  refine ⟨by omega, ?_, ?_, by omega, by omega, by omega⟩
  · rw [iZ_nat]; congr 1; omega
  · rw [iZ_nat]; congr 1; omega
theorem okWay {r : Row} (ok : okRow r) {x y : Nat} (hx : x < rN r 0) (hy : y < rN r 1) {d : Nat} (hd : d < rN r 2) (h : Nat) : (r (210 + (10 * y + x)) = nI (d + 1)) ↔ 10 * y + x ∈ leafC r d h 0 := by
  obtain ⟨-, z2, z3, z4⟩ := ok.2.2.2.2.2.2.1 x y hx hy
  have hm := ok.2.2.1.2
  rw [leafC0_iff, ← z4 d hd, z2]
  have : rN r (210 + (10 * y + x)) < 2 ^ 31 := by omega
  rw [nI_inj this (by omega)]
section
variable {n : Nat} {F : Fz} {G : gH} {ho : Nat} {r : Row} {nm : Nat → Int64} {xs : XS} {j : Nat} {an : Nat → Nat}
theorem isAt_run (Z : FrzX n F G) (H : IsHouse F ho r nm) (ok : okRow r) (hj : j < 2) {c : Nat} (hc : c < 100) (W : WX j ho r an (nI c) xs) (O : OW r an (nI c)) {d : Nat} (hd : d < rN r 2) : (M_X3_isAt (n + wA j) (nI d)).1 (mkX n G xs) = some (atB r an d c, mkX n G xs) := by
  have hm := ok.2.2.1.2
  suffices h : Ok ((M_X3_isAt (n + wA j) (nI d)).1 (mkX n G xs)) (fun v h' => v = atB r an d c ∧ h' = mkX n G xs) by
    obtain ⟨v, h', e, rfl, rfl⟩ := h
    exact e
  have W0 := W
  obtain ⟨w1, w2, w3, w4⟩ := W0
  obtain ⟨h1, h2⟩ := hgN_ok ok hd
  unfold M_X3_isAt
  simp (disch := omega) only [x_I1, x_I14, x_I18, x_I19, x_I2, x_I20, x_I24, x_I25, x_I3, x_I31, x_I33, x_I38, x_I39, x_R0, x_R10, x_R12, x_R13, x_R15, x_R16, x_R17, x_R21, x_R22, x_R23, x_R26, x_R27, x_R28, x_R29, x_R30, x_R32, x_R34, x_R35, x_R36, x_R37, x_R4, x_R40, x_R41, x_R43, x_R44, x_R45, x_R5, x_R6, x_R7, x_R8, x_R9, x_chk, x_chk15, x_chk7, x_w0I3, x_w0I4, x_w0I5, x_w0R1, x_w0R2, x_w1I3, x_w1I4, x_w1I5, x_w1R1, x_w1R2, x_sI1, x_sI14, x_sI18, x_sI19, x_sI2, x_sI20, x_sI24, x_sI25, x_sI3, x_sI31, x_sI33, x_sI38, x_sI39, x_sR11, x_sR42, x_w0sI3, x_w0sI4, x_w0sI5, x_w0sR, x_w1sI3, x_w1sI4, x_w1sI5, x_w1sR, x_A1n, x_sA1n, x_A13n, x_sA13n, x_A14n, x_sA14n, x_A21n, x_sA21n, x_A22n, x_sA22n, x_A27n, x_sA27n, x_A28n, x_sA28n, x_A29n, x_sA29n, x_A30n, x_sA30n, x_A31n, x_sA31n, x_A32n, x_sA32n, x_A33n, x_sA33n, x_A34n, x_sA34n, x_A35n, x_sA35n, x_A36n, x_sA36n, x_A37n, x_sA37n, x_A38n, x_sA38n, x_A39n, x_sA39n, x_A40n, x_sA40n, x_A41n, x_sA41n, x_A42n, x_sA42n, x_A43n, x_sA43n, evq_lv, evq_pure, lvM, m_hasn, m_isIn, m_one, m_isHang, x_w0R0e, x_R11e, x_w1R0e, Option.elim_some, Mo.bind_assoc, Mo.pure_bind, Mo.bind_pure, lit, nI_add, nI_mul, nI_subn, le_t, le_f, lt_t, lt_f, eq_t, eq_f, eqm_f, ltz_f, cond_true, cond_false, if_true, if_false, k_chk hj]
  refine Ok.forMs (S := Int32) (fun i => nI i) 9 (fun i h' => h' = mkX n G xs ∧ anyN (near r an d c) i = false) (i := 0) rfl (by omega) ⟨rfl, rfl⟩ (fun k h' hk hI => ?_) (fun h' hI => ?_)
  · obtain ⟨rfl, hA⟩ := hI
    have ex : nI (c - c / 10 * 10 + (k - k / 3 * 3)) - nI 1 = iZ (nbr c k).1 := by
      rw [iZ_nat, iZ_nat, iZ_sub]; unfold nbr; dsimp only; congr 1 <;> omega
    have ey : nI (c / 10 + k / 3) - nI 1 = iZ (nbr c k).2 := by
      rw [iZ_nat, iZ_nat, iZ_sub]; unfold nbr; dsimp only; congr 1 <;> omega
    by_cases z4 : k = 4
    · simp (disch := omega) only [x_I1, x_I14, x_I18, x_I19, x_I2, x_I20, x_I24, x_I25, x_I3, x_I31, x_I33, x_I38, x_I39, x_R0, x_R10, x_R12, x_R13, x_R15, x_R16, x_R17, x_R21, x_R22, x_R23, x_R26, x_R27, x_R28, x_R29, x_R30, x_R32, x_R34, x_R35, x_R36, x_R37, x_R4, x_R40, x_R41, x_R43, x_R44, x_R45, x_R5, x_R6, x_R7, x_R8, x_R9, x_chk, x_chk15, x_chk7, x_w0I3, x_w0I4, x_w0I5, x_w0R1, x_w0R2, x_w1I3, x_w1I4, x_w1I5, x_w1R1, x_w1R2, x_sI1, x_sI14, x_sI18, x_sI19, x_sI2, x_sI20, x_sI24, x_sI25, x_sI3, x_sI31, x_sI33, x_sI38, x_sI39, x_sR11, x_sR42, x_w0sI3, x_w0sI4, x_w0sI5, x_w0sR, x_w1sI3, x_w1sI4, x_w1sI5, x_w1sR, x_A1n, x_sA1n, x_A13n, x_sA13n, x_A14n, x_sA14n, x_A21n, x_sA21n, x_A22n, x_sA22n, x_A27n, x_sA27n, x_A28n, x_sA28n, x_A29n, x_sA29n, x_A30n, x_sA30n, x_A31n, x_sA31n, x_A32n, x_sA32n, x_A33n, x_sA33n, x_A34n, x_sA34n, x_A35n, x_sA35n, x_A36n, x_sA36n, x_A37n, x_sA37n, x_A38n, x_sA38n, x_A39n, x_sA39n, x_A40n, x_sA40n, x_A41n, x_sA41n, x_A42n, x_sA42n, x_A43n, x_sA43n, evq_lv, evq_pure, lvM, m_hasn, m_isIn, m_one, m_isHang, x_w0R0e, x_R11e, x_w1R0e, Option.elim_some, Mo.bind_assoc, Mo.pure_bind, Mo.bind_pure, lit, nI_add, nI_mul, nI_subn, le_t, le_f, lt_t, lt_f, eq_t, eq_f, eqm_f, ltz_f, cond_true, cond_false, if_true, if_false, k_I3 hj, w4, nI_divn]
      exact Ok.pM ⟨rfl, rfl, anyN_step hA (by unfold near; simp [z4])⟩
    · obtain ⟨b1, b2, b3, b4⟩ := nbr_b hc hk
      have ei := inH_isCell ok (x := (nbr c k).1) (y := (nbr c k).2) ⟨b1, b2⟩ ⟨b3, b4⟩
      cases hin : inH r (nbr c k) with
      | false =>
        have ei' : isCellB r (iZ (nbr c k).1) (iZ (nbr c k).2) = false := ei.trans hin
        simp (disch := omega) only [x_I1, x_I14, x_I18, x_I19, x_I2, x_I20, x_I24, x_I25, x_I3, x_I31, x_I33, x_I38, x_I39, x_R0, x_R10, x_R12, x_R13, x_R15, x_R16, x_R17, x_R21, x_R22, x_R23, x_R26, x_R27, x_R28, x_R29, x_R30, x_R32, x_R34, x_R35, x_R36, x_R37, x_R4, x_R40, x_R41, x_R43, x_R44, x_R45, x_R5, x_R6, x_R7, x_R8, x_R9, x_chk, x_chk15, x_chk7, x_w0I3, x_w0I4, x_w0I5, x_w0R1, x_w0R2, x_w1I3, x_w1I4, x_w1I5, x_w1R1, x_w1R2, x_sI1, x_sI14, x_sI18, x_sI19, x_sI2, x_sI20, x_sI24, x_sI25, x_sI3, x_sI31, x_sI33, x_sI38, x_sI39, x_sR11, x_sR42, x_w0sI3, x_w0sI4, x_w0sI5, x_w0sR, x_w1sI3, x_w1sI4, x_w1sI5, x_w1sR, x_A1n, x_sA1n, x_A13n, x_sA13n, x_A14n, x_sA14n, x_A21n, x_sA21n, x_A22n, x_sA22n, x_A27n, x_sA27n, x_A28n, x_sA28n, x_A29n, x_sA29n, x_A30n, x_sA30n, x_A31n, x_sA31n, x_A32n, x_sA32n, x_A33n, x_sA33n, x_A34n, x_sA34n, x_A35n, x_sA35n, x_A36n, x_sA36n, x_A37n, x_sA37n, x_A38n, x_sA38n, x_A39n, x_sA39n, x_A40n, x_sA40n, x_A41n, x_sA41n, x_A42n, x_sA42n, x_A43n, x_sA43n, evq_lv, evq_pure, lvM, m_hasn, m_isIn, m_one, m_isHang, x_w0R0e, x_R11e, x_w1R0e, Option.elim_some, Mo.bind_assoc, Mo.pure_bind, Mo.bind_pure, lit, nI_add, nI_mul, nI_subn, le_t, le_f, lt_t, lt_f, eq_t, eq_f, eqm_f, ltz_f, cond_true, cond_false, if_true, if_false, k_I3 hj, w4, nI_divn, ex, ey, k_R0 hj, w1, m_isCell (Z _) H, ei']
        exact Ok.pM ⟨rfl, rfl, anyN_step hA (by unfold near; simp [hin])⟩
      | true =>
        have ei' : isCellB r (iZ (nbr c k).1) (iZ (nbr c k).2) = true := ei.trans hin
        obtain ⟨i1, i2, i3, i4, -⟩ := inH_cell ok hin
        have ec : nI 10 * iZ (nbr c k).2 + iZ (nbr c k).1 = nI (cellN (nbr c k)) := by rw [i2, i3, i4, nI_mul, nI_add]
        obtain ⟨q, b', C, e⟩ := kleaf_run Z H ok hj W O hd
        have hh := hasC_run (Z xs) C leafC_100 i1
        obtain ⟨q2, D, e3⟩ := hs_door (Z xs) H hd hm
        obtain ⟨q3, C3, e4⟩ := dleaf_run (Z xs) D h2 (a := 0) (by omega)
        have hh3 := hasC_run (Z xs) C3 leafC_100 i1
        simp (disch := omega) only [x_I1, x_I14, x_I18, x_I19, x_I2, x_I20, x_I24, x_I25, x_I3, x_I31, x_I33, x_I38, x_I39, x_R0, x_R10, x_R12, x_R13, x_R15, x_R16, x_R17, x_R21, x_R22, x_R23, x_R26, x_R27, x_R28, x_R29, x_R30, x_R32, x_R34, x_R35, x_R36, x_R37, x_R4, x_R40, x_R41, x_R43, x_R44, x_R45, x_R5, x_R6, x_R7, x_R8, x_R9, x_chk, x_chk15, x_chk7, x_w0I3, x_w0I4, x_w0I5, x_w0R1, x_w0R2, x_w1I3, x_w1I4, x_w1I5, x_w1R1, x_w1R2, x_sI1, x_sI14, x_sI18, x_sI19, x_sI2, x_sI20, x_sI24, x_sI25, x_sI3, x_sI31, x_sI33, x_sI38, x_sI39, x_sR11, x_sR42, x_w0sI3, x_w0sI4, x_w0sI5, x_w0sR, x_w1sI3, x_w1sI4, x_w1sI5, x_w1sR, x_A1n, x_sA1n, x_A13n, x_sA13n, x_A14n, x_sA14n, x_A21n, x_sA21n, x_A22n, x_sA22n, x_A27n, x_sA27n, x_A28n, x_sA28n, x_A29n, x_sA29n, x_A30n, x_sA30n, x_A31n, x_sA31n, x_A32n, x_sA32n, x_A33n, x_sA33n, x_A34n, x_sA34n, x_A35n, x_sA35n, x_A36n, x_sA36n, x_A37n, x_sA37n, x_A38n, x_sA38n, x_A39n, x_sA39n, x_A40n, x_sA40n, x_A41n, x_sA41n, x_A42n, x_sA42n, x_A43n, x_sA43n, evq_lv, evq_pure, lvM, m_hasn, m_isIn, m_one, m_isHang, x_w0R0e, x_R11e, x_w1R0e, Option.elim_some, Mo.bind_assoc, Mo.pure_bind, Mo.bind_pure, lit, nI_add, nI_mul, nI_subn, le_t, le_f, lt_t, lt_f, eq_t, eq_f, eqm_f, ltz_f, cond_true, cond_false, if_true, if_false, k_I3 hj, w4, nI_divn, ex, ey, k_R0 hj, w1, m_isCell (Z _) H, ei', ec, ev_call e, ev_call hh]
        by_cases y1 : cellN (nbr c k) ∈ lfD r an d
        · simp only [y1, decide_true, cond_true]
          exact Ok.pM ⟨(anyN_hit hk (by unfold near; simp [z4, hin, y1])).symm, rfl⟩
        · simp only [y1, decide_false, cond_false]
          simp (disch := omega) only [x_I1, x_I14, x_I18, x_I19, x_I2, x_I20, x_I24, x_I25, x_I3, x_I31, x_I33, x_I38, x_I39, x_R0, x_R10, x_R12, x_R13, x_R15, x_R16, x_R17, x_R21, x_R22, x_R23, x_R26, x_R27, x_R28, x_R29, x_R30, x_R32, x_R34, x_R35, x_R36, x_R37, x_R4, x_R40, x_R41, x_R43, x_R44, x_R45, x_R5, x_R6, x_R7, x_R8, x_R9, x_chk, x_chk15, x_chk7, x_w0I3, x_w0I4, x_w0I5, x_w0R1, x_w0R2, x_w1I3, x_w1I4, x_w1I5, x_w1R1, x_w1R2, x_sI1, x_sI14, x_sI18, x_sI19, x_sI2, x_sI20, x_sI24, x_sI25, x_sI3, x_sI31, x_sI33, x_sI38, x_sI39, x_sR11, x_sR42, x_w0sI3, x_w0sI4, x_w0sI5, x_w0sR, x_w1sI3, x_w1sI4, x_w1sI5, x_w1sR, x_A1n, x_sA1n, x_A13n, x_sA13n, x_A14n, x_sA14n, x_A21n, x_sA21n, x_A22n, x_sA22n, x_A27n, x_sA27n, x_A28n, x_sA28n, x_A29n, x_sA29n, x_A30n, x_sA30n, x_A31n, x_sA31n, x_A32n, x_sA32n, x_A33n, x_sA33n, x_A34n, x_sA34n, x_A35n, x_sA35n, x_A36n, x_sA36n, x_A37n, x_sA37n, x_A38n, x_sA38n, x_A39n, x_sA39n, x_A40n, x_sA40n, x_A41n, x_sA41n, x_A42n, x_sA42n, x_A43n, x_sA43n, evq_lv, evq_pure, lvM, m_hasn, m_isIn, m_one, m_isHang, x_w0R0e, x_R11e, x_w1R0e, Option.elim_some, Mo.bind_assoc, Mo.pure_bind, Mo.bind_pure, lit, nI_add, nI_mul, nI_subn, le_t, le_f, lt_t, lt_f, eq_t, eq_f, eqm_f, ltz_f, cond_true, cond_false, if_true, if_false, k_R0 hj, w1, e3, k_R1 hj, k_hg hj, w2 d hd, ev_call e4, ev_call hh3]
          by_cases y2 : cellN (nbr c k) ∈ leafC r d (hgN r d) 0
          · simp only [y2, decide_true, cond_true]
            exact Ok.pM ⟨(anyN_hit hk (by unfold near; simp [z4, hin, y2])).symm, rfl⟩
          · simp only [y2, decide_false, cond_false]
            exact Ok.pM ⟨rfl, rfl, anyN_step hA (by unfold near; simp [y1, y2])⟩
  · obtain ⟨rfl, hA⟩ := hI
    simp (disch := omega) only [x_I1, x_I14, x_I18, x_I19, x_I2, x_I20, x_I24, x_I25, x_I3, x_I31, x_I33, x_I38, x_I39, x_R0, x_R10, x_R12, x_R13, x_R15, x_R16, x_R17, x_R21, x_R22, x_R23, x_R26, x_R27, x_R28, x_R29, x_R30, x_R32, x_R34, x_R35, x_R36, x_R37, x_R4, x_R40, x_R41, x_R43, x_R44, x_R45, x_R5, x_R6, x_R7, x_R8, x_R9, x_chk, x_chk15, x_chk7, x_w0I3, x_w0I4, x_w0I5, x_w0R1, x_w0R2, x_w1I3, x_w1I4, x_w1I5, x_w1R1, x_w1R2, x_sI1, x_sI14, x_sI18, x_sI19, x_sI2, x_sI20, x_sI24, x_sI25, x_sI3, x_sI31, x_sI33, x_sI38, x_sI39, x_sR11, x_sR42, x_w0sI3, x_w0sI4, x_w0sI5, x_w0sR, x_w1sI3, x_w1sI4, x_w1sI5, x_w1sR, x_A1n, x_sA1n, x_A13n, x_sA13n, x_A14n, x_sA14n, x_A21n, x_sA21n, x_A22n, x_sA22n, x_A27n, x_sA27n, x_A28n, x_sA28n, x_A29n, x_sA29n, x_A30n, x_sA30n, x_A31n, x_sA31n, x_A32n, x_sA32n, x_A33n, x_sA33n, x_A34n, x_sA34n, x_A35n, x_sA35n, x_A36n, x_sA36n, x_A37n, x_sA37n, x_A38n, x_sA38n, x_A39n, x_sA39n, x_A40n, x_sA40n, x_A41n, x_sA41n, x_A42n, x_sA42n, x_A43n, x_sA43n, evq_lv, evq_pure, lvM, m_hasn, m_isIn, m_one, m_isHang, x_w0R0e, x_R11e, x_w1R0e, Option.elim_some, Mo.bind_assoc, Mo.pure_bind, Mo.bind_pure, lit, nI_add, nI_mul, nI_subn, le_t, le_f, lt_t, lt_f, eq_t, eq_f, eqm_f, ltz_f, cond_true, cond_false, if_true, if_false]
    exact Ok.pM ⟨hA.symm, rfl⟩
/-! ===== the reference's ===== -/
theorem LO_is {m : MS} {p : Int32} (O : OW r an p) (L : LO r an m (rN r 2)) (hm : rN r 2 ≤ 10) {c d : Nat} (hc : c < 100) (hd : d < rN r 2) : (m.2.2.1 44 c = nI (d + 1)) ↔ c ∈ lfD r an d := by
  rcases L c hc with ⟨h1, h2⟩ | ⟨e, h1, h2, h3⟩
  · rw [h1]
    constructor
    · intro z; have := (nI_inj (by omega) (by omega)).mp z; omega
    · intro z; exact absurd z (h2 d hd)
  · rw [h2]
    constructor
    · intro z
      have := (nI_inj (by omega) (by omega)).mp z
      rw [show d = e by omega]; exact h3
    · intro z
      by_cases y : e = d
      · rw [y]
      · exact absurd z (O.2.1 e d h1 hd y c h3)
theorem LO_zero {m : MS} (L : LO r an m (rN r 2)) (hm : rN r 2 ≤ 10) {c : Nat} (hc : c < 100) : (m.2.2.1 44 c = nI 0) ↔ lfB r an 10 c = false := by
  unfold lfB
  rcases L c hc with ⟨h1, h2⟩ | ⟨e, h1, h2, h3⟩
  · refine ⟨fun _ => ?_, fun _ => h1⟩
    cases hb : anyN (fun d => decide (d ≠ 10) && decide (c ∈ lfD r an d)) (rN r 2) with
    | false => rfl
    | true =>
      obtain ⟨k, k1, k2⟩ := (anyN_iff _ _).mp hb
      simp only [Bool.and_eq_true, decide_eq_true_eq] at k2
      exact absurd k2.2 (h2 k k1)
  · constructor
    · intro z
      rw [h2] at z
      have := (nI_inj (by omega) (by omega)).mp z
      omega
    · intro z
      rw [anyN_hit (p := fun d => decide (d ≠ 10) && decide (c ∈ lfD r an d)) h1 (by simp [h3]; omega)] at z
      cases z
theorem pos_up {k : Nat} : pos k + nI 1 = pos (k + 1) := by
  cases k with
  | zero => rfl
  | succ k => exact nI_add k 1
theorem pos2 : ∀ k : Nat, k < 3 → ¬ nI 2 ≤ pos k := by decide
theorem pos2' : nI 2 ≤ pos 3 := by decide
theorem pos0 : ∀ k : Nat, k < 3 → (pos k = nI 0 ↔ k = 1) := by decide
theorem isAtT_run (ok : okRow r) {c : Nat} (hc : c < 100) {m : MS} (W : WM r an (nI c) m) (O : OW r an (nI c)) {d : Nat} (hd : d < rN r 2) : M_X10_isAt (nI d) m = some (atB r an d c, m) := by
  have hm := ok.2.2.1.2
  suffices h : Ok (M_X10_isAt (nI d) m) (fun v h' => v = atB r an d c ∧ h' = m) by
    obtain ⟨v, h', e, rfl, rfl⟩ := h
    exact e
  obtain ⟨w1, w2, w3, w4⟩ := W
  unfold M_X10_isAt
  simp (disch := omega) only [tq_I, tq_L, tq_sI, tq_sL, tq_lv, tq_pure, lvT, TM.bind_assoc, TM.pure_bind, TM.bind_pure, te_An, te_Bn, te_sAn, te_sBn, t_doors, t_hasn, t_isIn, t_of0, t_of1, t_of2, t_of3, t_of4, t_of5, t_of6, t_of7, lit, nI_add, nI_mul, nI_subn, le_t, le_f, lt_t, lt_f, eq_t, eq_f, eqm_f, ltz_f, cond_true, cond_false, if_true, if_false, w3]
  refine Ok.forTs (S := Int32) (fun i => pos i) 3 (fun i m' => m' = m ∧ anyN (near r an d c) (3 * i) = false) (i := 0) rfl (by omega) ⟨rfl, rfl⟩ (fun i m' hi hI => ?_) (fun m' hI => ?_)
  · obtain ⟨rfl, hA⟩ := hI
    simp only [if_neg (pos2 i hi)]
    refine Ok.forTs (S := Int32) (E := Int32 ⊕ Bool) (fun jj => pos jj) 3 (fun jj m'' => m'' = m' ∧ anyN (near r an d c) (3 * i + jj) = false) (i := 0) rfl (by omega) ⟨rfl, hA⟩ (fun jj m'' hjj hI => ?_) (fun m'' hI => ?_)
    · obtain ⟨rfl, hB⟩ := hI
      have hk : 3 * i + jj < 9 := by omega
      have ex : nI (c - c / 10 * 10) + pos jj = iZ (nbr c (3 * i + jj)).1 := by
        unfold nbr; dsimp only
        have : (3 * i + jj) % 3 = jj := by omega
        rw [this]
        rcases (show jj = 0 ∨ jj = 1 ∨ jj = 2 by omega) with rfl | rfl | rfl
        · rw [pos_z, ← Int32.sub_eq_add_neg, iZ_nat, iZ_nat, iZ_sub]; congr 1 <;> omega
        · rw [pos_s, nI_add, iZ_nat]; congr 1 <;> omega
        · rw [pos_s, nI_add, iZ_nat]; congr 1 <;> omega
      have ey : nI (c / 10) + pos i = iZ (nbr c (3 * i + jj)).2 := by
        unfold nbr; dsimp only
        have : (3 * i + jj) / 3 = i := by omega
        rw [this]
        rcases (show i = 0 ∨ i = 1 ∨ i = 2 by omega) with rfl | rfl | rfl
        · rw [pos_z, ← Int32.sub_eq_add_neg, iZ_nat, iZ_nat, iZ_sub]; congr 1 <;> omega
        · rw [pos_s, nI_add, iZ_nat]; congr 1 <;> omega
        · rw [pos_s, nI_add, iZ_nat]; congr 1 <;> omega
      obtain ⟨b1, b2, b3, b4⟩ := nbr_b hc hk
      have ei := inH_isCell ok (x := (nbr c (3 * i + jj)).1) (y := (nbr c (3 * i + jj)).2) ⟨b1, b2⟩ ⟨b3, b4⟩
      have nx : near r an d c (3 * i + jj) = false → anyN (near r an d c) (3 * i + (jj + 1)) = false := fun z => anyN_step hB z
      by_cases z4 : jj = 1 ∧ i = 1
      · obtain ⟨rfl, rfl⟩ := z4
        simp (disch := omega) only [tq_I, tq_L, tq_sI, tq_sL, tq_lv, tq_pure, lvT, TM.bind_assoc, TM.pure_bind, TM.bind_pure, te_An, te_Bn, te_sAn, te_sBn, t_doors, t_hasn, t_isIn, t_of0, t_of1, t_of2, t_of3, t_of4, t_of5, t_of6, t_of7, lit, nI_add, nI_mul, nI_subn, le_t, le_f, lt_t, lt_f, eq_t, eq_f, eqm_f, ltz_f, cond_true, cond_false, if_true, if_false, w3, nI_divn, if_neg (pos2 1 (by decide)), if_pos ((pos0 1 (by decide)).mpr rfl), pos_up]
        exact Ok.pT ⟨rfl, rfl, nx (by simp [near])⟩
      · have k4 : 3 * i + jj ≠ 4 := by omega
        by_cases z0 : jj = 1
        · have z1 : i ≠ 1 := fun y => z4 ⟨z0, y⟩
          cases hin : inH r (nbr c (3 * i + jj)) with
          | false =>
            have ei' : isCellB r (iZ (nbr c (3 * i + jj)).1) (iZ (nbr c (3 * i + jj)).2) = false := ei.trans hin
            simp (disch := omega) only [tq_I, tq_L, tq_sI, tq_sL, tq_lv, tq_pure, lvT, TM.bind_assoc, TM.pure_bind, TM.bind_pure, te_An, te_Bn, te_sAn, te_sBn, t_doors, t_hasn, t_isIn, t_of0, t_of1, t_of2, t_of3, t_of4, t_of5, t_of6, t_of7, lit, nI_add, nI_mul, nI_subn, le_t, le_f, lt_t, lt_f, eq_t, eq_f, eqm_f, ltz_f, cond_true, cond_false, if_true, if_false, w3, nI_divn, if_neg (pos2 jj hjj), if_pos ((pos0 jj hjj).mpr z0), if_neg (fun y => z1 ((pos0 i hi).mp y)), ex, ey, pos_up, t_isCell ok w1, ei']
            exact Ok.pT ⟨rfl, rfl, nx (by unfold near; simp [hin])⟩
          | true =>
            have ei' : isCellB r (iZ (nbr c (3 * i + jj)).1) (iZ (nbr c (3 * i + jj)).2) = true := ei.trans hin
            obtain ⟨i1, i2, i3, i4, i5, i6⟩ := inH_cell ok hin
            have ec : nI 10 * iZ (nbr c (3 * i + jj)).2 + iZ (nbr c (3 * i + jj)).1 = nI (cellN (nbr c (3 * i + jj))) := by rw [i2, i3, i4, nI_mul, nI_add]
            have ew : nI 210 + nI 10 * iZ (nbr c (3 * i + jj)).2 + iZ (nbr c (3 * i + jj)).1 = nI (210 + cellN (nbr c (3 * i + jj))) := by rw [Int32.add_assoc, ec, nI_add]
            have l44 := LO_is O w4 hm i1 hd
            have l210 := okWay ok i5 i6 hd (hgN r d)
            rw [← i4] at l210
            by_cases y1 : cellN (nbr c (3 * i + jj)) ∈ lfD r an d
            · simp (disch := omega) only [tq_I, tq_L, tq_sI, tq_sL, tq_lv, tq_pure, lvT, TM.bind_assoc, TM.pure_bind, TM.bind_pure, te_An, te_Bn, te_sAn, te_sBn, t_doors, t_hasn, t_isIn, t_of0, t_of1, t_of2, t_of3, t_of4, t_of5, t_of6, t_of7, lit, nI_add, nI_mul, nI_subn, le_t, le_f, lt_t, lt_f, eq_t, eq_f, eqm_f, ltz_f, cond_true, cond_false, if_true, if_false, w3, nI_divn, if_neg (pos2 jj hjj), if_pos ((pos0 jj hjj).mpr z0), if_neg (fun y => z1 ((pos0 i hi).mp y)), ex, ey, pos_up, t_isCell ok w1, ei', ec, ew, if_pos (l44.mpr y1)]
              exact Ok.pT ⟨(anyN_hit hk (by unfold near; simp [k4, hin, y1])).symm, rfl⟩
            · by_cases y2 : cellN (nbr c (3 * i + jj)) ∈ leafC r d (hgN r d) 0
              · simp (disch := omega) only [tq_I, tq_L, tq_sI, tq_sL, tq_lv, tq_pure, lvT, TM.bind_assoc, TM.pure_bind, TM.bind_pure, te_An, te_Bn, te_sAn, te_sBn, t_doors, t_hasn, t_isIn, t_of0, t_of1, t_of2, t_of3, t_of4, t_of5, t_of6, t_of7, lit, nI_add, nI_mul, nI_subn, le_t, le_f, lt_t, lt_f, eq_t, eq_f, eqm_f, ltz_f, cond_true, cond_false, if_true, if_false, w3, nI_divn, if_neg (pos2 jj hjj), if_pos ((pos0 jj hjj).mpr z0), if_neg (fun y => z1 ((pos0 i hi).mp y)), ex, ey, pos_up, t_isCell ok w1, ei', ec, ew, if_neg (fun z => y1 (l44.mp z)), w1, if_pos (l210.mpr y2)]
                exact Ok.pT ⟨(anyN_hit hk (by unfold near; simp [k4, hin, y2])).symm, rfl⟩
              · simp (disch := omega) only [tq_I, tq_L, tq_sI, tq_sL, tq_lv, tq_pure, lvT, TM.bind_assoc, TM.pure_bind, TM.bind_pure, te_An, te_Bn, te_sAn, te_sBn, t_doors, t_hasn, t_isIn, t_of0, t_of1, t_of2, t_of3, t_of4, t_of5, t_of6, t_of7, lit, nI_add, nI_mul, nI_subn, le_t, le_f, lt_t, lt_f, eq_t, eq_f, eqm_f, ltz_f, cond_true, cond_false, if_true, if_false, w3, nI_divn, if_neg (pos2 jj hjj), if_pos ((pos0 jj hjj).mpr z0), if_neg (fun y => z1 ((pos0 i hi).mp y)), ex, ey, pos_up, t_isCell ok w1, ei', ec, ew, if_neg (fun z => y1 (l44.mp z)), w1, if_neg (fun z => y2 (l210.mp z))]
                exact Ok.pT ⟨rfl, rfl, nx (by unfold near; simp [y1, y2])⟩
        · cases hin : inH r (nbr c (3 * i + jj)) with
          | false =>
            have ei' : isCellB r (iZ (nbr c (3 * i + jj)).1) (iZ (nbr c (3 * i + jj)).2) = false := ei.trans hin
            simp (disch := omega) only [tq_I, tq_L, tq_sI, tq_sL, tq_lv, tq_pure, lvT, TM.bind_assoc, TM.pure_bind, TM.bind_pure, te_An, te_Bn, te_sAn, te_sBn, t_doors, t_hasn, t_isIn, t_of0, t_of1, t_of2, t_of3, t_of4, t_of5, t_of6, t_of7, lit, nI_add, nI_mul, nI_subn, le_t, le_f, lt_t, lt_f, eq_t, eq_f, eqm_f, ltz_f, cond_true, cond_false, if_true, if_false, w3, nI_divn, if_neg (pos2 jj hjj), if_neg (fun y => z0 ((pos0 jj hjj).mp y)), ex, ey, pos_up, t_isCell ok w1, ei']
            exact Ok.pT ⟨rfl, rfl, nx (by unfold near; simp [hin])⟩
          | true =>
            have ei' : isCellB r (iZ (nbr c (3 * i + jj)).1) (iZ (nbr c (3 * i + jj)).2) = true := ei.trans hin
            obtain ⟨i1, i2, i3, i4, i5, i6⟩ := inH_cell ok hin
            have ec : nI 10 * iZ (nbr c (3 * i + jj)).2 + iZ (nbr c (3 * i + jj)).1 = nI (cellN (nbr c (3 * i + jj))) := by rw [i2, i3, i4, nI_mul, nI_add]
            have ew : nI 210 + nI 10 * iZ (nbr c (3 * i + jj)).2 + iZ (nbr c (3 * i + jj)).1 = nI (210 + cellN (nbr c (3 * i + jj))) := by rw [Int32.add_assoc, ec, nI_add]
            have l44 := LO_is O w4 hm i1 hd
            have l210 := okWay ok i5 i6 hd (hgN r d)
            rw [← i4] at l210
            by_cases y1 : cellN (nbr c (3 * i + jj)) ∈ lfD r an d
            · simp (disch := omega) only [tq_I, tq_L, tq_sI, tq_sL, tq_lv, tq_pure, lvT, TM.bind_assoc, TM.pure_bind, TM.bind_pure, te_An, te_Bn, te_sAn, te_sBn, t_doors, t_hasn, t_isIn, t_of0, t_of1, t_of2, t_of3, t_of4, t_of5, t_of6, t_of7, lit, nI_add, nI_mul, nI_subn, le_t, le_f, lt_t, lt_f, eq_t, eq_f, eqm_f, ltz_f, cond_true, cond_false, if_true, if_false, w3, nI_divn, if_neg (pos2 jj hjj), if_neg (fun y => z0 ((pos0 jj hjj).mp y)), ex, ey, pos_up, t_isCell ok w1, ei', ec, ew, if_pos (l44.mpr y1)]
              exact Ok.pT ⟨(anyN_hit hk (by unfold near; simp [k4, hin, y1])).symm, rfl⟩
            · by_cases y2 : cellN (nbr c (3 * i + jj)) ∈ leafC r d (hgN r d) 0
              · simp (disch := omega) only [tq_I, tq_L, tq_sI, tq_sL, tq_lv, tq_pure, lvT, TM.bind_assoc, TM.pure_bind, TM.bind_pure, te_An, te_Bn, te_sAn, te_sBn, t_doors, t_hasn, t_isIn, t_of0, t_of1, t_of2, t_of3, t_of4, t_of5, t_of6, t_of7, lit, nI_add, nI_mul, nI_subn, le_t, le_f, lt_t, lt_f, eq_t, eq_f, eqm_f, ltz_f, cond_true, cond_false, if_true, if_false, w3, nI_divn, if_neg (pos2 jj hjj), if_neg (fun y => z0 ((pos0 jj hjj).mp y)), ex, ey, pos_up, t_isCell ok w1, ei', ec, ew, if_neg (fun z => y1 (l44.mp z)), w1, if_pos (l210.mpr y2)]
                exact Ok.pT ⟨(anyN_hit hk (by unfold near; simp [k4, hin, y2])).symm, rfl⟩
              · simp (disch := omega) only [tq_I, tq_L, tq_sI, tq_sL, tq_lv, tq_pure, lvT, TM.bind_assoc, TM.pure_bind, TM.bind_pure, te_An, te_Bn, te_sAn, te_sBn, t_doors, t_hasn, t_isIn, t_of0, t_of1, t_of2, t_of3, t_of4, t_of5, t_of6, t_of7, lit, nI_add, nI_mul, nI_subn, le_t, le_f, lt_t, lt_f, eq_t, eq_f, eqm_f, ltz_f, cond_true, cond_false, if_true, if_false, w3, nI_divn, if_neg (pos2 jj hjj), if_neg (fun y => z0 ((pos0 jj hjj).mp y)), ex, ey, pos_up, t_isCell ok w1, ei', ec, ew, if_neg (fun z => y1 (l44.mp z)), w1, if_neg (fun z => y2 (l210.mp z))]
                exact Ok.pT ⟨rfl, rfl, nx (by unfold near; simp [y1, y2])⟩
    · obtain ⟨rfl, hB⟩ := hI
      simp (disch := omega) only [tq_I, tq_L, tq_sI, tq_sL, tq_lv, tq_pure, lvT, TM.bind_assoc, TM.pure_bind, TM.bind_pure, te_An, te_Bn, te_sAn, te_sBn, t_doors, t_hasn, t_isIn, t_of0, t_of1, t_of2, t_of3, t_of4, t_of5, t_of6, t_of7, lit, nI_add, nI_mul, nI_subn, le_t, le_f, lt_t, lt_f, eq_t, eq_f, eqm_f, ltz_f, cond_true, cond_false, if_true, if_false, if_pos pos2', pos_up]
      exact Ok.pT ⟨rfl, rfl, hB⟩
  · obtain ⟨rfl, hA⟩ := hI
    simp (disch := omega) only [tq_I, tq_L, tq_sI, tq_sL, tq_lv, tq_pure, lvT, TM.bind_assoc, TM.pure_bind, TM.bind_pure, te_An, te_Bn, te_sAn, te_sBn, t_doors, t_hasn, t_isIn, t_of0, t_of1, t_of2, t_of3, t_of4, t_of5, t_of6, t_of7, lit, nI_add, nI_mul, nI_subn, le_t, le_f, lt_t, lt_f, eq_t, eq_f, eqm_f, ltz_f, cond_true, cond_false, if_true, if_false, if_pos pos2']
    exact Ok.pT ⟨hA.symm, rfl⟩
end
