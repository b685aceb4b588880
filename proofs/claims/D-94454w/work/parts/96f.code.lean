set_option maxRecDepth 100000
/-! ===== places and angles as numbers ===== -/
def encR (an : Nat → Nat) : Nat → Nat → Nat
  | _, 0 => 0
  | j, l + 1 => an j + 3 * encR an (j + 1) l
theorem encR_lt {an : Nat → Nat} : ∀ l j, (∀ d, j ≤ d → d < j + l → an d ≤ 2) → encR an j l < 3 ^ l
  | 0, j, _ => by simp [encR]
  | l + 1, j, h => by
    have := encR_lt l (j + 1) (fun d h1 h2 => h d (by omega) (by omega))
    have := h j (by omega) (by omega)
    unfold encR
    rw [Nat.pow_succ]
    omega
theorem encR_s {an : Nat → Nat} {k D : Nat} (h : k < D) : encR an k (D - k) = an k + 3 * encR an (k + 1) (D - (k + 1)) := by
  rw [show D - k = D - (k + 1) + 1 by omega]; rfl
def codeN (r : Row) (an : Nat → Nat) (c : Nat) : Nat := 100 * encR an 0 (rN r 2) + c
theorem enc_243 {r : Row} {an : Nat → Nat} {p : Int32} (h5 : rN r 2 ≤ 5) (O : OW r an p) : encR an 0 (rN r 2) < 243 := by
  have h1 := encR_lt (an := an) (rN r 2) 0 (fun d _ hd => (O.1 d (by omega)).1)
  have h2 : 3 ^ rN r 2 ≤ 3 ^ 5 := Nat.pow_le_pow_right (by decide) h5
  have : (3 : Nat) ^ 5 = 243 := by decide
  omega
theorem code_lt {r : Row} {an : Nat → Nat} {p : Int32} {c : Nat} (h5 : rN r 2 ≤ 5) (O : OW r an p) (hc : c < 100) : codeN r an c < 24300 := by
  have := enc_243 h5 O
  unfold codeN; omega
theorem code_mod {r : Row} {an : Nat → Nat} {c : Nat} (hc : c < 100) : codeN r an c % 100 = c ∧ codeN r an c / 100 = encR an 0 (rN r 2) := by unfold codeN; omega
theorem pos_sub {k : Nat} : nI k - nI 1 = pos k := by rw [Int32.sub_eq_add_neg, pos_1]
theorem min5 {D : Nat} (h : D ≤ 5) [Decidable (nI D < nI 5)] : (if nI D < nI 5 then nI D else nI 5) = nI D := by
  by_cases z : D < 5
  · rw [lt_t z (by omega)]
  · rw [lt_f (by omega) (by omega), show D = 5 by omega]
section
variable {n : Nat} {F : Fz} {G : gH} {ho : Nat} {r : Row} {nm : Nat → Int64} {xs : XS} {j : Nat} {an : Nat → Nat}
theorem code_run (Z : FrzX n F G) (H : IsHouse F ho r nm) (ok : okRow r) (hj : j < 2) {c : Nat} (W : WX j ho r an (nI c) xs) (O : OW r an (nI c)) (h5 : rN r 2 ≤ 5) : (M_X1_code (n + wA j)).1 (mkX n G xs) = some (nI (codeN r an c), mkX n G xs) := by
  have hm := ok.2.2.1.2
  obtain ⟨w1, w2, w3, w4⟩ := W
  suffices h : Ok ((M_X1_code (n + wA j)).1 (mkX n G xs)) (fun v h' => v = nI (codeN r an c) ∧ h' = mkX n G xs) by
    obtain ⟨v, h', e, rfl, rfl⟩ := h
    exact e
  unfold M_X1_code
  simp (disch := omega) only [x_I1, x_I14, x_I18, x_I19, x_I2, x_I20, x_I24, x_I25, x_I3, x_I31, x_I33, x_I38, x_I39, x_R0, x_R10, x_R12, x_R13, x_R15, x_R16, x_R17, x_R21, x_R22, x_R23, x_R26, x_R27, x_R28, x_R29, x_R30, x_R32, x_R34, x_R35, x_R36, x_R37, x_R4, x_R40, x_R41, x_R43, x_R44, x_R45, x_R5, x_R6, x_R7, x_R8, x_R9, x_chk, x_chk15, x_chk7, x_w0I3, x_w0I4, x_w0I5, x_w0R1, x_w0R2, x_w1I3, x_w1I4, x_w1I5, x_w1R1, x_w1R2, x_sI1, x_sI14, x_sI18, x_sI19, x_sI2, x_sI20, x_sI24, x_sI25, x_sI3, x_sI31, x_sI33, x_sI38, x_sI39, x_sR11, x_sR42, x_w0sI3, x_w0sI4, x_w0sI5, x_w0sR, x_w1sI3, x_w1sI4, x_w1sI5, x_w1sR, x_A1n, x_sA1n, x_A13n, x_sA13n, x_A14n, x_sA14n, x_A21n, x_sA21n, x_A22n, x_sA22n, x_A27n, x_sA27n, x_A28n, x_sA28n, x_A29n, x_sA29n, x_A30n, x_sA30n, x_A31n, x_sA31n, x_A32n, x_sA32n, x_A33n, x_sA33n, x_A34n, x_sA34n, x_A35n, x_sA35n, x_A36n, x_sA36n, x_A37n, x_sA37n, x_A38n, x_sA38n, x_A39n, x_sA39n, x_A40n, x_sA40n, x_A41n, x_sA41n, x_A42n, x_sA42n, x_A43n, x_sA43n, evq_lv, evq_pure, lvM, m_hasn, m_isIn, m_one, m_isHang, x_w0R0e, x_R11e, x_w1R0e, Option.elim_some, Mo.bind_assoc, Mo.pure_bind, Mo.bind_pure, lit, nI_add, nI_mul, nI_subn, le_t, le_f, lt_t, lt_f, eq_t, eq_f, eqm_f, ltz_f, cond_true, cond_false, if_true, if_false, k_R0 hj, w1, hs_many (Z _) H, ok.2.2.1.1, min5 h5, pos_sub]
  refine Ok.bM (P := fun v h' => v = nI (encR an 0 (rN r 2)) ∧ h' = mkX n G xs) (Ok.loopM (S := Int32 × Int32) (E := Int32) (fun k s h' => k ≤ rN r 2 ∧ s = (nI (encR an k (rN r 2 - k)), pos k) ∧ h' = mkX n G xs) (fun k s h' hI => ?_) (rN r 2) _ _ ⟨by omega, by rw [Nat.sub_self]; rfl, rfl⟩) (fun v h' ⟨q1, q2⟩ => ?_)
  · obtain ⟨hk, rfl, rfl⟩ := hI
    dsimp only
    cases k with
    | zero =>
      simp (disch := omega) only [x_I1, x_I14, x_I18, x_I19, x_I2, x_I20, x_I24, x_I25, x_I3, x_I31, x_I33, x_I38, x_I39, x_R0, x_R10, x_R12, x_R13, x_R15, x_R16, x_R17, x_R21, x_R22, x_R23, x_R26, x_R27, x_R28, x_R29, x_R30, x_R32, x_R34, x_R35, x_R36, x_R37, x_R4, x_R40, x_R41, x_R43, x_R44, x_R45, x_R5, x_R6, x_R7, x_R8, x_R9, x_chk, x_chk15, x_chk7, x_w0I3, x_w0I4, x_w0I5, x_w0R1, x_w0R2, x_w1I3, x_w1I4, x_w1I5, x_w1R1, x_w1R2, x_sI1, x_sI14, x_sI18, x_sI19, x_sI2, x_sI20, x_sI24, x_sI25, x_sI3, x_sI31, x_sI33, x_sI38, x_sI39, x_sR11, x_sR42, x_w0sI3, x_w0sI4, x_w0sI5, x_w0sR, x_w1sI3, x_w1sI4, x_w1sI5, x_w1sR, x_A1n, x_sA1n, x_A13n, x_sA13n, x_A14n, x_sA14n, x_A21n, x_sA21n, x_A22n, x_sA22n, x_A27n, x_sA27n, x_A28n, x_sA28n, x_A29n, x_sA29n, x_A30n, x_sA30n, x_A31n, x_sA31n, x_A32n, x_sA32n, x_A33n, x_sA33n, x_A34n, x_sA34n, x_A35n, x_sA35n, x_A36n, x_sA36n, x_A37n, x_sA37n, x_A38n, x_sA38n, x_A39n, x_sA39n, x_A40n, x_sA40n, x_A41n, x_sA41n, x_A42n, x_sA42n, x_A43n, x_sA43n, evq_lv, evq_pure, lvM, m_hasn, m_isIn, m_one, m_isHang, x_w0R0e, x_R11e, x_w1R0e, Option.elim_some, Mo.bind_assoc, Mo.pure_bind, Mo.bind_pure, lit, nI_add, nI_mul, nI_subn, le_t, le_f, lt_t, lt_f, eq_t, eq_f, eqm_f, ltz_f, cond_true, cond_false, if_true, if_false, pos_z, posz_t]
      exact Ok.pM ⟨rfl, rfl⟩
    | succ k =>
      have hd : k < rN r 2 := by omega
      simp (disch := omega) only [x_I1, x_I14, x_I18, x_I19, x_I2, x_I20, x_I24, x_I25, x_I3, x_I31, x_I33, x_I38, x_I39, x_R0, x_R10, x_R12, x_R13, x_R15, x_R16, x_R17, x_R21, x_R22, x_R23, x_R26, x_R27, x_R28, x_R29, x_R30, x_R32, x_R34, x_R35, x_R36, x_R37, x_R4, x_R40, x_R41, x_R43, x_R44, x_R45, x_R5, x_R6, x_R7, x_R8, x_R9, x_chk, x_chk15, x_chk7, x_w0I3, x_w0I4, x_w0I5, x_w0R1, x_w0R2, x_w1I3, x_w1I4, x_w1I5, x_w1R1, x_w1R2, x_sI1, x_sI14, x_sI18, x_sI19, x_sI2, x_sI20, x_sI24, x_sI25, x_sI3, x_sI31, x_sI33, x_sI38, x_sI39, x_sR11, x_sR42, x_w0sI3, x_w0sI4, x_w0sI5, x_w0sR, x_w1sI3, x_w1sI4, x_w1sI5, x_w1sR, x_A1n, x_sA1n, x_A13n, x_sA13n, x_A14n, x_sA14n, x_A21n, x_sA21n, x_A22n, x_sA22n, x_A27n, x_sA27n, x_A28n, x_sA28n, x_A29n, x_sA29n, x_A30n, x_sA30n, x_A31n, x_sA31n, x_A32n, x_sA32n, x_A33n, x_sA33n, x_A34n, x_sA34n, x_A35n, x_sA35n, x_A36n, x_sA36n, x_A37n, x_sA37n, x_A38n, x_sA38n, x_A39n, x_sA39n, x_A40n, x_sA40n, x_A41n, x_sA41n, x_A42n, x_sA42n, x_A43n, x_sA43n, evq_lv, evq_pure, lvM, m_hasn, m_isIn, m_one, m_isHang, x_w0R0e, x_R11e, x_w1R0e, Option.elim_some, Mo.bind_assoc, Mo.pure_bind, Mo.bind_pure, lit, nI_add, nI_mul, nI_subn, le_t, le_f, lt_t, lt_f, eq_t, eq_f, eqm_f, ltz_f, cond_true, cond_false, if_true, if_false, pos_s, k_R2 hj, k_an hj, w3 k hd, pos_1]
      refine Ok.pM ⟨k, by omega, by omega, ?_, rfl⟩
      rw [encR_s hd, Nat.add_comm]
  · subst q1 q2
    simp (disch := omega) only [x_I1, x_I14, x_I18, x_I19, x_I2, x_I20, x_I24, x_I25, x_I3, x_I31, x_I33, x_I38, x_I39, x_R0, x_R10, x_R12, x_R13, x_R15, x_R16, x_R17, x_R21, x_R22, x_R23, x_R26, x_R27, x_R28, x_R29, x_R30, x_R32, x_R34, x_R35, x_R36, x_R37, x_R4, x_R40, x_R41, x_R43, x_R44, x_R45, x_R5, x_R6, x_R7, x_R8, x_R9, x_chk, x_chk15, x_chk7, x_w0I3, x_w0I4, x_w0I5, x_w0R1, x_w0R2, x_w1I3, x_w1I4, x_w1I5, x_w1R1, x_w1R2, x_sI1, x_sI14, x_sI18, x_sI19, x_sI2, x_sI20, x_sI24, x_sI25, x_sI3, x_sI31, x_sI33, x_sI38, x_sI39, x_sR11, x_sR42, x_w0sI3, x_w0sI4, x_w0sI5, x_w0sR, x_w1sI3, x_w1sI4, x_w1sI5, x_w1sR, x_A1n, x_sA1n, x_A13n, x_sA13n, x_A14n, x_sA14n, x_A21n, x_sA21n, x_A22n, x_sA22n, x_A27n, x_sA27n, x_A28n, x_sA28n, x_A29n, x_sA29n, x_A30n, x_sA30n, x_A31n, x_sA31n, x_A32n, x_sA32n, x_A33n, x_sA33n, x_A34n, x_sA34n, x_A35n, x_sA35n, x_A36n, x_sA36n, x_A37n, x_sA37n, x_A38n, x_sA38n, x_A39n, x_sA39n, x_A40n, x_sA40n, x_A41n, x_sA41n, x_A42n, x_sA42n, x_A43n, x_sA43n, evq_lv, evq_pure, lvM, m_hasn, m_isIn, m_one, m_isHang, x_w0R0e, x_R11e, x_w1R0e, Option.elim_some, Mo.bind_assoc, Mo.pure_bind, Mo.bind_pure, lit, nI_add, nI_mul, nI_subn, le_t, le_f, lt_t, lt_f, eq_t, eq_f, eqm_f, ltz_f, cond_true, cond_false, if_true, if_false, k_I3 hj, w4]
    exact Ok.pM ⟨rfl, rfl⟩
theorem codeT_run (ok : okRow r) {m : MS} {c : Nat} (V : WM r an (nI c) m) (h5 : rN r 2 ≤ 5) : M_X10_stateAtHand m = some (nI (codeN r an c), m) := by
  have hm := ok.2.2.1.2
  obtain ⟨v1, v2, v3, v4⟩ := V
  suffices h : Ok (M_X10_stateAtHand m) (fun v h' => v = nI (codeN r an c) ∧ h' = m) by
    obtain ⟨v, h', e, rfl, rfl⟩ := h
    exact e
  unfold M_X10_stateAtHand
  simp (disch := omega) only [tq_I, tq_L, tq_sI, tq_sL, tq_lv, tq_pure, lvT, TM.bind_assoc, TM.pure_bind, TM.bind_pure, te_An, te_Bn, te_sAn, te_sBn, t_doors, t_hasn, t_isIn, t_of0, t_of1, t_of2, t_of3, t_of4, t_of5, t_of6, t_of7, lit, nI_add, nI_mul, nI_subn, le_t, le_f, lt_t, lt_f, eq_t, eq_f, eqm_f, ltz_f, cond_true, cond_false, if_true, if_false, v1, ok.2.2.1.1, pos_sub]
  refine Ok.bT (P := fun v h' => v = nI (encR an 0 (rN r 2)) ∧ h' = m) (Ok.loopT (S := Int32 × Int32) (E := Int32) (fun k s h' => k ≤ rN r 2 ∧ s = (nI (encR an k (rN r 2 - k)), pos k) ∧ h' = m) (fun k s h' hI => ?_) (rN r 2) _ _ ⟨by omega, by rw [Nat.sub_self]; rfl, rfl⟩) (fun v h' ⟨q1, q2⟩ => ?_)
  · obtain ⟨hk, rfl, rfl⟩ := hI
    dsimp only
    cases k with
    | zero =>
      simp (disch := omega) only [tq_I, tq_L, tq_sI, tq_sL, tq_lv, tq_pure, lvT, TM.bind_assoc, TM.pure_bind, TM.bind_pure, te_An, te_Bn, te_sAn, te_sBn, t_doors, t_hasn, t_isIn, t_of0, t_of1, t_of2, t_of3, t_of4, t_of5, t_of6, t_of7, lit, nI_add, nI_mul, nI_subn, le_t, le_f, lt_t, lt_f, eq_t, eq_f, eqm_f, ltz_f, cond_true, cond_false, if_true, if_false, pos_z, posz_t]
      exact Ok.pT ⟨rfl, rfl⟩
    | succ k =>
      have hd : k < rN r 2 := by omega
      simp (disch := omega) only [tq_I, tq_L, tq_sI, tq_sL, tq_lv, tq_pure, lvT, TM.bind_assoc, TM.pure_bind, TM.bind_pure, te_An, te_Bn, te_sAn, te_sBn, t_doors, t_hasn, t_isIn, t_of0, t_of1, t_of2, t_of3, t_of4, t_of5, t_of6, t_of7, lit, nI_add, nI_mul, nI_subn, le_t, le_f, lt_t, lt_f, eq_t, eq_f, eqm_f, ltz_f, cond_true, cond_false, if_true, if_false, pos_s, v2 k hd, pos_1]
      refine Ok.pT ⟨k, by omega, by omega, ?_, rfl⟩
      rw [encR_s hd, Nat.add_comm]
  · subst q1 q2
    simp (disch := omega) only [tq_I, tq_L, tq_sI, tq_sL, tq_lv, tq_pure, lvT, TM.bind_assoc, TM.pure_bind, TM.bind_pure, te_An, te_Bn, te_sAn, te_sBn, t_doors, t_hasn, t_isIn, t_of0, t_of1, t_of2, t_of3, t_of4, t_of5, t_of6, t_of7, lit, nI_add, nI_mul, nI_subn, le_t, le_f, lt_t, lt_f, eq_t, eq_f, eqm_f, ltz_f, cond_true, cond_false, if_true, if_false, v3]
    exact Ok.pT ⟨rfl, rfl⟩
/-- a number is laid out: the one who is tried -/
theorem unfold_run (Z : FrzX n F G) (H : IsHouse F ho r nm) (ok : okRow r) {an0 : Nat → Nat} {p0 : Int32} {c : Nat} (hc : c < 100) (W0 : WX 0 ho r an0 p0 xs) (h5 : rN r 2 ≤ 5) (O : OW r an (nI c)) : Ok ((M_X1_unfold n (nI (codeN r an c))).1 (mkX n G xs)) (fun _ h' => ∃ xs', h' = mkX n G xs' ∧ WX 1 ho r an (nI c) xs' ∧ sameT xs xs') := by
  have hm := ok.2.2.1.2
  have hcl := code_lt h5 O hc
  obtain ⟨cm, cd⟩ := code_mod (r := r) (an := an) hc
  have e243 := enc_243 h5 O
  unfold M_X1_unfold
  rw [x_chk]
  simp (disch := omega) only [x_I1, x_I14, x_I18, x_I19, x_I2, x_I20, x_I24, x_I25, x_I3, x_I31, x_I33, x_I38, x_I39, x_R0, x_R10, x_R12, x_R13, x_R15, x_R16, x_R17, x_R21, x_R22, x_R23, x_R26, x_R27, x_R28, x_R29, x_R30, x_R32, x_R34, x_R35, x_R36, x_R37, x_R4, x_R40, x_R41, x_R43, x_R44, x_R45, x_R5, x_R6, x_R7, x_R8, x_R9, x_chk, x_chk15, x_chk7, x_w0I3, x_w0I4, x_w0I5, x_w0R1, x_w0R2, x_w1I3, x_w1I4, x_w1I5, x_w1R1, x_w1R2, x_sI1, x_sI14, x_sI18, x_sI19, x_sI2, x_sI20, x_sI24, x_sI25, x_sI3, x_sI31, x_sI33, x_sI38, x_sI39, x_sR11, x_sR42, x_w0sI3, x_w0sI4, x_w0sI5, x_w0sR, x_w1sI3, x_w1sI4, x_w1sI5, x_w1sR, x_A1n, x_sA1n, x_A13n, x_sA13n, x_A14n, x_sA14n, x_A21n, x_sA21n, x_A22n, x_sA22n, x_A27n, x_sA27n, x_A28n, x_sA28n, x_A29n, x_sA29n, x_A30n, x_sA30n, x_A31n, x_sA31n, x_A32n, x_sA32n, x_A33n, x_sA33n, x_A34n, x_sA34n, x_A35n, x_sA35n, x_A36n, x_sA36n, x_A37n, x_sA37n, x_A38n, x_sA38n, x_A39n, x_sA39n, x_A40n, x_sA40n, x_A41n, x_sA41n, x_A42n, x_sA42n, x_A43n, x_sA43n, evq_lv, evq_pure, lvM, m_hasn, m_isIn, m_one, m_isHang, x_w0R0e, x_R11e, x_w1R0e, Option.elim_some, Mo.bind_assoc, Mo.pure_bind, Mo.bind_pure, lit, nI_add, nI_mul, nI_subn, le_t, le_f, lt_t, lt_f, eq_t, eq_f, eqm_f, ltz_f, cond_true, cond_false, if_true, if_false]
  refine Ok.bM (be_run ok W0) fun _ h' ⟨xs1, q1, W1, T1, _⟩ => ?_
  subst q1
  have emod : codeN r an c - encR an 0 (rN r 2) * 100 = c := by omega
  simp (disch := omega) only [x_I1, x_I14, x_I18, x_I19, x_I2, x_I20, x_I24, x_I25, x_I3, x_I31, x_I33, x_I38, x_I39, x_R0, x_R10, x_R12, x_R13, x_R15, x_R16, x_R17, x_R21, x_R22, x_R23, x_R26, x_R27, x_R28, x_R29, x_R30, x_R32, x_R34, x_R35, x_R36, x_R37, x_R4, x_R40, x_R41, x_R43, x_R44, x_R45, x_R5, x_R6, x_R7, x_R8, x_R9, x_chk, x_chk15, x_chk7, x_w0I3, x_w0I4, x_w0I5, x_w0R1, x_w0R2, x_w1I3, x_w1I4, x_w1I5, x_w1R1, x_w1R2, x_sI1, x_sI14, x_sI18, x_sI19, x_sI2, x_sI20, x_sI24, x_sI25, x_sI3, x_sI31, x_sI33, x_sI38, x_sI39, x_sR11, x_sR42, x_w0sI3, x_w0sI4, x_w0sI5, x_w0sR, x_w1sI3, x_w1sI4, x_w1sI5, x_w1sR, x_A1n, x_sA1n, x_A13n, x_sA13n, x_A14n, x_sA14n, x_A21n, x_sA21n, x_A22n, x_sA22n, x_A27n, x_sA27n, x_A28n, x_sA28n, x_A29n, x_sA29n, x_A30n, x_sA30n, x_A31n, x_sA31n, x_A32n, x_sA32n, x_A33n, x_sA33n, x_A34n, x_sA34n, x_A35n, x_sA35n, x_A36n, x_sA36n, x_A37n, x_sA37n, x_A38n, x_sA38n, x_A39n, x_sA39n, x_A40n, x_sA40n, x_A41n, x_sA41n, x_A42n, x_sA42n, x_A43n, x_sA43n, evq_lv, evq_pure, lvM, m_hasn, m_isIn, m_one, m_isHang, x_w0R0e, x_R11e, x_w1R0e, Option.elim_some, Mo.bind_assoc, Mo.pure_bind, Mo.bind_pure, lit, nI_add, nI_mul, nI_subn, le_t, le_f, lt_t, lt_f, eq_t, eq_f, eqm_f, ltz_f, cond_true, cond_false, if_true, if_false, nI_divn, emod, cd]
  have T2 : sameT xs (zW xs1 1 3 (nI c)) := T1.tr (kept.rf.zW (by omega)).t
  have f200 : ∀ {ys : XS}, sameT xs ys → ys.2.1 200 = some ho := fun T => by rw [T.2.1 200 (by decide)]; exact W0.1
  refine Ok.bM (P := fun _ h' => ∃ xs', h' = mkX n G xs' ∧ WX 1 ho r an (nI c) xs' ∧ sameT xs xs') (Ok.loopM (S := Int32 × Int32) (E := Unit) (fun k s h' => ∃ i xs', i + k = rN r 2 ∧ s = (nI (encR an i (rN r 2 - i)), nI i) ∧ h' = mkX n G xs' ∧ sameT xs xs' ∧ xs'.2.1 201 = some ho ∧ (∀ d, d < rN r 2 → xs'.2.2.1 210 d = nI (hgN r d)) ∧ (∀ d, d < i → xs'.2.2.1 211 d = nI (an d)) ∧ xs'.2.2.2.1 1 3 = nI c) (fun k s h' hI => ?_) (rN r 2) _ _ ⟨0, _, by omega, rfl, rfl, T2, W1.1, W1.2.1, fun d hd => by omega, by simp (disch := omega) only [uI_1, uI_2, uA_1, uA_21, uA_22, uA_3, uB_1, uB_21, uB_22, uB_3, uL_1, uL_21, uL_22, zI_1, zI_2, zR_1, zR_21, zR_22, zA_1, zA_21, zA_221, zA_222, zAA_1, zAA_21, zAA_221, zAA_222, zW_1, zW_21, zW_221, zW_2221, zW_2222, zL_1, zL_21, zL_221, zL_2221, zL_22221, zL_22222, va_eq, va_ne]⟩) (fun _ _ q => Ok.pM q)
  obtain ⟨i, xs2, hk, rfl, rfl, T, g1, g2, g3, g4⟩ := hI
  have f2 := f200 T
  dsimp only
  by_cases hi : i < rN r 2
  · have ha := (O.1 i hi).1
    have el : encR an i (rN r 2 - i) = an i + 3 * encR an (i + 1) (rN r 2 - (i + 1)) := by
      rw [show rN r 2 - i = rN r 2 - (i + 1) + 1 by omega]; rfl
    have hlt := encR_lt (an := an) (rN r 2 - i) i (fun d _ hd => (O.1 d (by omega)).1)
    have h3 : 3 ^ (rN r 2 - i) ≤ 3 ^ 5 := Nat.pow_le_pow_right (by decide) (by omega)
    have h35 : (3 : Nat) ^ 5 = 243 := by decide
    have e1 : encR an i (rN r 2 - i) - encR an (i + 1) (rN r 2 - (i + 1)) * 3 = an i := by omega
    have e2 : encR an i (rN r 2 - i) / 3 = encR an (i + 1) (rN r 2 - (i + 1)) := by omega
    simp (disch := omega) only [x_I1, x_I14, x_I18, x_I19, x_I2, x_I20, x_I24, x_I25, x_I3, x_I31, x_I33, x_I38, x_I39, x_R0, x_R10, x_R12, x_R13, x_R15, x_R16, x_R17, x_R21, x_R22, x_R23, x_R26, x_R27, x_R28, x_R29, x_R30, x_R32, x_R34, x_R35, x_R36, x_R37, x_R4, x_R40, x_R41, x_R43, x_R44, x_R45, x_R5, x_R6, x_R7, x_R8, x_R9, x_chk, x_chk15, x_chk7, x_w0I3, x_w0I4, x_w0I5, x_w0R1, x_w0R2, x_w1I3, x_w1I4, x_w1I5, x_w1R1, x_w1R2, x_sI1, x_sI14, x_sI18, x_sI19, x_sI2, x_sI20, x_sI24, x_sI25, x_sI3, x_sI31, x_sI33, x_sI38, x_sI39, x_sR11, x_sR42, x_w0sI3, x_w0sI4, x_w0sI5, x_w0sR, x_w1sI3, x_w1sI4, x_w1sI5, x_w1sR, x_A1n, x_sA1n, x_A13n, x_sA13n, x_A14n, x_sA14n, x_A21n, x_sA21n, x_A22n, x_sA22n, x_A27n, x_sA27n, x_A28n, x_sA28n, x_A29n, x_sA29n, x_A30n, x_sA30n, x_A31n, x_sA31n, x_A32n, x_sA32n, x_A33n, x_sA33n, x_A34n, x_sA34n, x_A35n, x_sA35n, x_A36n, x_sA36n, x_A37n, x_sA37n, x_A38n, x_sA38n, x_A39n, x_sA39n, x_A40n, x_sA40n, x_A41n, x_sA41n, x_A42n, x_sA42n, x_A43n, x_sA43n, evq_lv, evq_pure, lvM, m_hasn, m_isIn, m_one, m_isHang, x_w0R0e, x_R11e, x_w1R0e, Option.elim_some, Mo.bind_assoc, Mo.pure_bind, Mo.bind_pure, lit, nI_add, nI_mul, nI_subn, le_t, le_f, lt_t, lt_f, eq_t, eq_f, eqm_f, ltz_f, cond_true, cond_false, if_true, if_false, f2, hs_many (Z _) H, ok.2.2.1.1, nI_divn, e1, e2]
    refine Ok.pM ⟨k - 1, by omega, i + 1, _, by omega, rfl, rfl, T.tr (kept.zA (j := 1) (i := i) (v := nI (an i)) kept.rf).t, g1, ?_, fun d hd => ?_, g4⟩
    · rw [zA_221, va_ne (by decide)]; exact g2
    · rw [zA_221, va_eq]
      by_cases z : d = i
      · rw [z, va_eq]
      · rw [va_ne z]; exact g3 d (by omega)
  · have : i = rN r 2 := by omega
    subst this
    simp (disch := omega) only [x_I1, x_I14, x_I18, x_I19, x_I2, x_I20, x_I24, x_I25, x_I3, x_I31, x_I33, x_I38, x_I39, x_R0, x_R10, x_R12, x_R13, x_R15, x_R16, x_R17, x_R21, x_R22, x_R23, x_R26, x_R27, x_R28, x_R29, x_R30, x_R32, x_R34, x_R35, x_R36, x_R37, x_R4, x_R40, x_R41, x_R43, x_R44, x_R45, x_R5, x_R6, x_R7, x_R8, x_R9, x_chk, x_chk15, x_chk7, x_w0I3, x_w0I4, x_w0I5, x_w0R1, x_w0R2, x_w1I3, x_w1I4, x_w1I5, x_w1R1, x_w1R2, x_sI1, x_sI14, x_sI18, x_sI19, x_sI2, x_sI20, x_sI24, x_sI25, x_sI3, x_sI31, x_sI33, x_sI38, x_sI39, x_sR11, x_sR42, x_w0sI3, x_w0sI4, x_w0sI5, x_w0sR, x_w1sI3, x_w1sI4, x_w1sI5, x_w1sR, x_A1n, x_sA1n, x_A13n, x_sA13n, x_A14n, x_sA14n, x_A21n, x_sA21n, x_A22n, x_sA22n, x_A27n, x_sA27n, x_A28n, x_sA28n, x_A29n, x_sA29n, x_A30n, x_sA30n, x_A31n, x_sA31n, x_A32n, x_sA32n, x_A33n, x_sA33n, x_A34n, x_sA34n, x_A35n, x_sA35n, x_A36n, x_sA36n, x_A37n, x_sA37n, x_A38n, x_sA38n, x_A39n, x_sA39n, x_A40n, x_sA40n, x_A41n, x_sA41n, x_A42n, x_sA42n, x_A43n, x_sA43n, evq_lv, evq_pure, lvM, m_hasn, m_isIn, m_one, m_isHang, x_w0R0e, x_R11e, x_w1R0e, Option.elim_some, Mo.bind_assoc, Mo.pure_bind, Mo.bind_pure, lit, nI_add, nI_mul, nI_subn, le_t, le_f, lt_t, lt_f, eq_t, eq_f, eqm_f, ltz_f, cond_true, cond_false, if_true, if_false, f2, hs_many (Z _) H, ok.2.2.1.1]
    exact Ok.pM ⟨xs2, rfl, ⟨g1, g2, g3, g4⟩, T⟩
theorem layState_run (ok : okRow r) {m : MS} (hr : m.2.2.1 14 = r) {c : Nat} (hc : c < 100) (h5 : rN r 2 ≤ 5) (O : OW r an (nI c)) : Ok (M_X10_layState (nI (codeN r an c)) m) (fun _ m' => WM r an (nI c) m' ∧ sameB [26, 45] [24, 25, 43, 44] [] m m') := by
  have hm := ok.2.2.1.2
  have hcl := code_lt h5 O hc
  obtain ⟨cm, cd⟩ := code_mod (r := r) (an := an) hc
  have e243 := enc_243 h5 O
  unfold M_X10_layState
  have emod : codeN r an c - encR an 0 (rN r 2) * 100 = c := by omega
  simp (disch := omega) only [tq_I, tq_L, tq_sI, tq_sL, tq_lv, tq_pure, lvT, TM.bind_assoc, TM.pure_bind, TM.bind_pure, te_An, te_Bn, te_sAn, te_sBn, t_doors, t_hasn, t_isIn, t_of0, t_of1, t_of2, t_of3, t_of4, t_of5, t_of6, t_of7, lit, nI_add, nI_mul, nI_subn, le_t, le_f, lt_t, lt_f, eq_t, eq_f, eqm_f, ltz_f, cond_true, cond_false, if_true, if_false, nI_divn, emod, cd]
  refine Ok.bT (P := fun _ m' => (∀ d, d < rN r 2 → m'.2.2.1 43 d = nI (an d)) ∧ sameB [] [43] [] (uI m 45 (nI c)) m') (Ok.loopT (S := Int32 × Int32) (E := Unit) (fun k s m' => ∃ i, i + k = rN r 2 ∧ s = (nI (encR an i (rN r 2 - i)), nI i) ∧ (∀ d, d < i → m'.2.2.1 43 d = nI (an d)) ∧ sameB [] [43] [] (uI m 45 (nI c)) m') (fun k s m' hI => ?_) (rN r 2) _ _ ⟨0, by omega, rfl, fun d hd => by omega, sameB.rf⟩) (fun _ m2 ⟨q1, q2⟩ => ?_)
  · obtain ⟨i, hk, rfl, g3, S⟩ := hI
    have hr1 : m'.2.2.1 14 = r := (S.2.1 14 (by decide)).trans hr
    dsimp only
    by_cases hi : i < rN r 2
    · have ha := (O.1 i hi).1
      have el : encR an i (rN r 2 - i) = an i + 3 * encR an (i + 1) (rN r 2 - (i + 1)) := by
        rw [show rN r 2 - i = rN r 2 - (i + 1) + 1 by omega]; rfl
      have hlt := encR_lt (an := an) (rN r 2 - i) i (fun d _ hd => (O.1 d (by omega)).1)
      have h3 : 3 ^ (rN r 2 - i) ≤ 3 ^ 5 := Nat.pow_le_pow_right (by decide) (by omega)
      have h35 : (3 : Nat) ^ 5 = 243 := by decide
      have e1 : encR an i (rN r 2 - i) - encR an (i + 1) (rN r 2 - (i + 1)) * 3 = an i := by omega
      have e2 : encR an i (rN r 2 - i) / 3 = encR an (i + 1) (rN r 2 - (i + 1)) := by omega
      simp (disch := omega) only [tq_I, tq_L, tq_sI, tq_sL, tq_lv, tq_pure, lvT, TM.bind_assoc, TM.pure_bind, TM.bind_pure, te_An, te_Bn, te_sAn, te_sBn, t_doors, t_hasn, t_isIn, t_of0, t_of1, t_of2, t_of3, t_of4, t_of5, t_of6, t_of7, lit, nI_add, nI_mul, nI_subn, le_t, le_f, lt_t, lt_f, eq_t, eq_f, eqm_f, ltz_f, cond_true, cond_false, if_true, if_false, hr1, ok.2.2.1.1, nI_divn, e1, e2]
      refine Ok.pT ⟨k - 1, by omega, i + 1, by omega, rfl, fun d hd => ?_, S.uA (by decide)⟩
      rw [uA_22, va_eq]
      by_cases z : d = i
      · rw [z, va_eq]
      · rw [va_ne z]; exact g3 d (by omega)
    · have : i = rN r 2 := by omega
      subst this
      simp (disch := omega) only [tq_I, tq_L, tq_sI, tq_sL, tq_lv, tq_pure, lvT, TM.bind_assoc, TM.pure_bind, TM.bind_pure, te_An, te_Bn, te_sAn, te_sBn, t_doors, t_hasn, t_isIn, t_of0, t_of1, t_of2, t_of3, t_of4, t_of5, t_of6, t_of7, lit, nI_add, nI_mul, nI_subn, le_t, le_f, lt_t, lt_f, eq_t, eq_f, eqm_f, ltz_f, cond_true, cond_false, if_true, if_false, hr1, ok.2.2.1.1]
      exact Ok.pT ⟨g3, S⟩
  · have hr2 : m2.2.2.1 14 = r := (q2.2.1 14 (by decide)).trans hr
    refine Ok.bT (layLeaves_run ok hr2 q1 O.1) (fun _ m3 ⟨L, B⟩ => Ok.pT ⟨⟨?_, ?_, ?_, L⟩, ?_⟩)
    · rw [B.2.1 14 (by decide)]; exact hr2
    · rw [B.2.1 43 (by decide)]; exact q1
    · rw [B.1 45 (by decide), q2.1 45 (by decide)]; simp (disch := omega) only [uI_1, uI_2, uA_1, uA_21, uA_22, uA_3, uB_1, uB_21, uB_22, uB_3, uL_1, uL_21, uL_22, zI_1, zI_2, zR_1, zR_21, zR_22, zA_1, zA_21, zA_221, zA_222, zAA_1, zAA_21, zAA_221, zAA_222, zW_1, zW_21, zW_221, zW_2221, zW_2222, zL_1, zL_21, zL_221, zL_2221, zL_22221, zL_22222, va_eq, va_ne]
    · exact ((sameB.rf.uI (by decide)).tr (q2.up (by decide) (by decide) (by decide))).tr (B.up (by decide) (by decide) (by decide))
end
