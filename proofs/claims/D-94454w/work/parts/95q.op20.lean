set_option maxRecDepth 100000
theorem pop_full : ∀ n : Nat, n < 11 → ∀ t : Nat, t < 1024 → t < 2 ^ n → popN t = n → t = 2 ^ n - 1 := by decide +kernel
theorem getD_app {L : List Nat} {x k : Nat} (h : k < (L ++ [x]).length) : (L ++ [x]).getD k 0 = if k < L.length then L.getD k 0 else x := by
  rw [List.length_append, List.length_singleton] at h
  by_cases z : k < L.length
  · rw [if_pos z, List.getD_eq_getElem?_getD, List.getElem?_append_left z, ← List.getD_eq_getElem?_getD]
  · have : k = L.length := by omega
    subst this
    rw [if_neg z, List.getD_eq_getElem?_getD, List.getElem?_append_right (Nat.le_refl _)]
    simp
set_option maxHeartbeats 4000000 in
theorem op_20 {n : Nat} {h : gH} (R : Rel n h) (a : Nat → Int32) : OpOk n h (LS_20 n (n + 50) (n + 83) a) := by
  obtain ⟨F, g, xs, ms, rfl, R⟩ := R
  obtain ⟨ho, dy, r, m1, hl, R1, hr, hb, Z, e1, e2, ⟨hH, ok, hhg, -⟩, -⟩ := R.sit
  have hm := ok.2.2.1.2
  refine OpOk.two ?_
  generalize hG : mkM (n + 50) g ms = G at Z ⊢
  unfold M_X1_joiner M_X10_joiner
  simp (disch := omega) only [x_I1, x_I14, x_I18, x_I19, x_I2, x_I20, x_I24, x_I25, x_I3, x_I31, x_I33, x_I38, x_I39, x_R0, x_R10, x_R12, x_R13, x_R15, x_R16, x_R17, x_R21, x_R22, x_R23, x_R26, x_R27, x_R28, x_R29, x_R30, x_R32, x_R34, x_R35, x_R36, x_R37, x_R4, x_R40, x_R41, x_R43, x_R44, x_R45, x_R5, x_R6, x_R7, x_R8, x_R9, x_chk, x_chk15, x_chk7, x_w0I3, x_w0I4, x_w0I5, x_w0R1, x_w0R2, x_w1I3, x_w1I4, x_w1I5, x_w1R1, x_w1R2, x_sI1, x_sI14, x_sI18, x_sI19, x_sI2, x_sI20, x_sI24, x_sI25, x_sI3, x_sI31, x_sI33, x_sI38, x_sI39, x_sR11, x_sR42, x_w0sI3, x_w0sI4, x_w0sI5, x_w0sR, x_w1sI3, x_w1sI4, x_w1sI5, x_w1sR, x_A1n, x_sA1n, x_A13n, x_sA13n, x_A14n, x_sA14n, x_A21n, x_sA21n, x_A22n, x_sA22n, x_A27n, x_sA27n, x_A28n, x_sA28n, x_A29n, x_sA29n, x_A30n, x_sA30n, x_A31n, x_sA31n, x_A32n, x_sA32n, x_A33n, x_sA33n, x_A34n, x_sA34n, x_A35n, x_sA35n, x_A36n, x_sA36n, x_A37n, x_sA37n, x_A38n, x_sA38n, x_A39n, x_sA39n, x_A40n, x_sA40n, x_A41n, x_sA41n, x_A42n, x_sA42n, x_A43n, x_sA43n, evq_lv, evq_pure, lvM, m_hasn, m_isIn, m_one, m_isHang, x_w0R0e, x_R11e, x_w1R0e, Option.elim_some, Mo.bind_assoc, Mo.pure_bind, Mo.bind_pure, lit, nI_add, nI_mul, nI_subn, le_t, le_f, lt_t, lt_f, eq_t, eq_f, eqm_f, ltz_f, cond_true, cond_false, if_true, if_false, tq_I, tq_L, tq_sI, tq_sL, tq_lv, tq_pure, lvT, TM.bind_assoc, TM.pure_bind, TM.bind_pure, te_An, te_Bn, te_sAn, te_sBn, t_doors, t_hasn, t_isIn, t_of0, t_of1, t_of2, t_of3, t_of4, t_of5, t_of6, t_of7, lit, nI_add, nI_mul, nI_subn, le_t, le_f, lt_t, lt_f, eq_t, eq_f, eqm_f, ltz_f, cond_true, cond_false, if_true, if_false]
  refine Two.b (findC_two Z hH ok e1 hhg hr (laySwept_two R hl hr hb ok)) fun _ h2 b m2 ⟨xs', q1, X, S1, S2, q⟩ => ?_
  subst q1
  rcases q with ⟨rfl, rfl⟩ | ⟨rfl, c, k, c1, c2, rfl, c3, c4, c5⟩
  · simp (disch := omega) only [x_I1, x_I14, x_I18, x_I19, x_I2, x_I20, x_I24, x_I25, x_I3, x_I31, x_I33, x_I38, x_I39, x_R0, x_R10, x_R12, x_R13, x_R15, x_R16, x_R17, x_R21, x_R22, x_R23, x_R26, x_R27, x_R28, x_R29, x_R30, x_R32, x_R34, x_R35, x_R36, x_R37, x_R4, x_R40, x_R41, x_R43, x_R44, x_R45, x_R5, x_R6, x_R7, x_R8, x_R9, x_chk, x_chk15, x_chk7, x_w0I3, x_w0I4, x_w0I5, x_w0R1, x_w0R2, x_w1I3, x_w1I4, x_w1I5, x_w1R1, x_w1R2, x_sI1, x_sI14, x_sI18, x_sI19, x_sI2, x_sI20, x_sI24, x_sI25, x_sI3, x_sI31, x_sI33, x_sI38, x_sI39, x_sR11, x_sR42, x_w0sI3, x_w0sI4, x_w0sI5, x_w0sR, x_w1sI3, x_w1sI4, x_w1sI5, x_w1sR, x_A1n, x_sA1n, x_A13n, x_sA13n, x_A14n, x_sA14n, x_A21n, x_sA21n, x_A22n, x_sA22n, x_A27n, x_sA27n, x_A28n, x_sA28n, x_A29n, x_sA29n, x_A30n, x_sA30n, x_A31n, x_sA31n, x_A32n, x_sA32n, x_A33n, x_sA33n, x_A34n, x_sA34n, x_A35n, x_sA35n, x_A36n, x_sA36n, x_A37n, x_sA37n, x_A38n, x_sA38n, x_A39n, x_sA39n, x_A40n, x_sA40n, x_A41n, x_sA41n, x_A42n, x_sA42n, x_A43n, x_sA43n, evq_lv, evq_pure, lvM, m_hasn, m_isIn, m_one, m_isHang, x_w0R0e, x_R11e, x_w1R0e, Option.elim_some, Mo.bind_assoc, Mo.pure_bind, Mo.bind_pure, lit, nI_add, nI_mul, nI_subn, le_t, le_f, lt_t, lt_f, eq_t, eq_f, eqm_f, ltz_f, cond_true, cond_false, if_true, if_false, tq_I, tq_L, tq_sI, tq_sL, tq_lv, tq_pure, lvT, TM.bind_assoc, TM.pure_bind, TM.bind_pure, te_An, te_Bn, te_sAn, te_sBn, t_doors, t_hasn, t_isIn, t_of0, t_of1, t_of2, t_of3, t_of4, t_of5, t_of6, t_of7, lit, nI_add, nI_mul, nI_subn, le_t, le_f, lt_t, lt_f, eq_t, eq_f, eqm_f, ltz_f, cond_true, cond_false, if_true, if_false, if_pos]
    exact Two.pp ⟨rfl, F, g, xs', by rw [hG], (R1.sx S1 (by decide) (by decide)).sm S2 (by decide) (by decide) (by decide), by omega, by omega⟩
  · have w : Wt true c k < 2 ^ 31 := by unfold Wt; simp; omega
    obtain ⟨x1, x2, x3, x4, x5⟩ := X
    generalize hBd : (fun e => (xs'.2.2.1 17 e).toNatClampNeg) = B
    have hBx : ∀ e, e < rN r 2 → xs'.2.2.1 17 e = nI (B e) ∧ B e < 4 := fun e he => by
      obtain ⟨h, h1, h2, h3⟩ := c5 e he
      rw [← hBd]; dsimp only; rw [h2, nI_clamp (by omega)]; exact ⟨rfl, h1⟩
    have hBm : ∀ e, e < rN r 2 → m2.2.2.1 31 e = nI (B e) ∧ B e < 4 := fun e he => by
      obtain ⟨h, h1, h2, h3⟩ := c5 e he
      rw [← hBd]; dsimp only; rw [h2, nI_clamp (by omega)]; exact ⟨h3, h1⟩
    simp (disch := omega) only [x_I1, x_I14, x_I18, x_I19, x_I2, x_I20, x_I24, x_I25, x_I3, x_I31, x_I33, x_I38, x_I39, x_R0, x_R10, x_R12, x_R13, x_R15, x_R16, x_R17, x_R21, x_R22, x_R23, x_R26, x_R27, x_R28, x_R29, x_R30, x_R32, x_R34, x_R35, x_R36, x_R37, x_R4, x_R40, x_R41, x_R43, x_R44, x_R45, x_R5, x_R6, x_R7, x_R8, x_R9, x_chk, x_chk15, x_chk7, x_w0I3, x_w0I4, x_w0I5, x_w0R1, x_w0R2, x_w1I3, x_w1I4, x_w1I5, x_w1R1, x_w1R2, x_sI1, x_sI14, x_sI18, x_sI19, x_sI2, x_sI20, x_sI24, x_sI25, x_sI3, x_sI31, x_sI33, x_sI38, x_sI39, x_sR11, x_sR42, x_w0sI3, x_w0sI4, x_w0sI5, x_w0sR, x_w1sI3, x_w1sI4, x_w1sI5, x_w1sR, x_A1n, x_sA1n, x_A13n, x_sA13n, x_A14n, x_sA14n, x_A21n, x_sA21n, x_A22n, x_sA22n, x_A27n, x_sA27n, x_A28n, x_sA28n, x_A29n, x_sA29n, x_A30n, x_sA30n, x_A31n, x_sA31n, x_A32n, x_sA32n, x_A33n, x_sA33n, x_A34n, x_sA34n, x_A35n, x_sA35n, x_A36n, x_sA36n, x_A37n, x_sA37n, x_A38n, x_sA38n, x_A39n, x_sA39n, x_A40n, x_sA40n, x_A41n, x_sA41n, x_A42n, x_sA42n, x_A43n, x_sA43n, evq_lv, evq_pure, lvM, m_hasn, m_isIn, m_one, m_isHang, x_w0R0e, x_R11e, x_w1R0e, Option.elim_some, Mo.bind_assoc, Mo.pure_bind, Mo.bind_pure, lit, nI_add, nI_mul, nI_subn, le_t, le_f, lt_t, lt_f, eq_t, eq_f, eqm_f, ltz_f, cond_true, cond_false, if_true, if_false, tq_I, tq_L, tq_sI, tq_sL, tq_lv, tq_pure, lvT, TM.bind_assoc, TM.pure_bind, TM.bind_pure, te_An, te_Bn, te_sAn, te_sBn, t_doors, t_hasn, t_isIn, t_of0, t_of1, t_of2, t_of3, t_of4, t_of5, t_of6, t_of7, lit, nI_add, nI_mul, nI_subn, le_t, le_f, lt_t, lt_f, eq_t, eq_f, eqm_f, ltz_f, cond_true, cond_false, if_true, if_false]
    -- which doors change
    refine Two.l (P := fun v h' => v = nI (chF r B (rN r 2)).length ∧ ∃ xs1, h' = mkX n G xs1 ∧ sameX [] [26] xs' xs1 ∧ ∀ k, k < (chF r B (rN r 2)).length → xs1.2.2.1 26 k = nI ((chF r B (rN r 2)).getD k 0)) ?_ fun v h' ⟨q0, xs1, q1, T1, hC⟩ => ?_
    · refine Ok.forMs (S := Int32 × Int32) (fun i => (nI (chF r B i).length, nI i)) (rN r 2) (fun i h' => ∃ xs1, h' = mkX n G xs1 ∧ sameX [] [26] xs' xs1 ∧ ∀ k, k < (chF r B i).length → xs1.2.2.1 26 k = nI ((chF r B i).getD k 0)) (i := 0) rfl (by omega) ⟨xs', rfl, sameX.rf, fun k hk => by simp [chF] at hk⟩ (fun i h' hi hI => ?_) (fun h' hI => ?_)
      · obtain ⟨xs1, rfl, T1, hC⟩ := hI
        have f1 : xs1.2.1 200 = some ho := by rw [T1.2.1]; exact x1
        have b1 : xs1.2.2.1 17 i = nI (B i) := by rw [T1.2.2.1 17 (by decide)]; exact (hBx i hi).1
        have g1 : xs1.2.2.1 200 i = nI (hgN r i) := by rw [T1.2.2.1 200 (by decide)]; exact x3 i hi
        have b4 := (hBx i hi).2
        have g4 := (hgN_ok ok hi).2
        have ll := chF_len r B i
        have cs := chF_succ r B i
        by_cases z : B i = hgN r i
        · rw [if_pos z] at cs
          simp (disch := omega) only [x_I1, x_I14, x_I18, x_I19, x_I2, x_I20, x_I24, x_I25, x_I3, x_I31, x_I33, x_I38, x_I39, x_R0, x_R10, x_R12, x_R13, x_R15, x_R16, x_R17, x_R21, x_R22, x_R23, x_R26, x_R27, x_R28, x_R29, x_R30, x_R32, x_R34, x_R35, x_R36, x_R37, x_R4, x_R40, x_R41, x_R43, x_R44, x_R45, x_R5, x_R6, x_R7, x_R8, x_R9, x_chk, x_chk15, x_chk7, x_w0I3, x_w0I4, x_w0I5, x_w0R1, x_w0R2, x_w1I3, x_w1I4, x_w1I5, x_w1R1, x_w1R2, x_sI1, x_sI14, x_sI18, x_sI19, x_sI2, x_sI20, x_sI24, x_sI25, x_sI3, x_sI31, x_sI33, x_sI38, x_sI39, x_sR11, x_sR42, x_w0sI3, x_w0sI4, x_w0sI5, x_w0sR, x_w1sI3, x_w1sI4, x_w1sI5, x_w1sR, x_A1n, x_sA1n, x_A13n, x_sA13n, x_A14n, x_sA14n, x_A21n, x_sA21n, x_A22n, x_sA22n, x_A27n, x_sA27n, x_A28n, x_sA28n, x_A29n, x_sA29n, x_A30n, x_sA30n, x_A31n, x_sA31n, x_A32n, x_sA32n, x_A33n, x_sA33n, x_A34n, x_sA34n, x_A35n, x_sA35n, x_A36n, x_sA36n, x_A37n, x_sA37n, x_A38n, x_sA38n, x_A39n, x_sA39n, x_A40n, x_sA40n, x_A41n, x_sA41n, x_A42n, x_sA42n, x_A43n, x_sA43n, evq_lv, evq_pure, lvM, m_hasn, m_isIn, m_one, m_isHang, x_w0R0e, x_R11e, x_w1R0e, Option.elim_some, Mo.bind_assoc, Mo.pure_bind, Mo.bind_pure, lit, nI_add, nI_mul, nI_subn, le_t, le_f, lt_t, lt_f, eq_t, eq_f, eqm_f, ltz_f, cond_true, cond_false, if_true, if_false, f1, hs_many (Z _) hH, ok.2.2.1.1, b1, g1]
          exact Ok.pM ⟨by rw [cs], xs1, rfl, T1, by rw [cs]; exact hC⟩
        · rw [if_neg z] at cs
          simp (disch := omega) only [x_I1, x_I14, x_I18, x_I19, x_I2, x_I20, x_I24, x_I25, x_I3, x_I31, x_I33, x_I38, x_I39, x_R0, x_R10, x_R12, x_R13, x_R15, x_R16, x_R17, x_R21, x_R22, x_R23, x_R26, x_R27, x_R28, x_R29, x_R30, x_R32, x_R34, x_R35, x_R36, x_R37, x_R4, x_R40, x_R41, x_R43, x_R44, x_R45, x_R5, x_R6, x_R7, x_R8, x_R9, x_chk, x_chk15, x_chk7, x_w0I3, x_w0I4, x_w0I5, x_w0R1, x_w0R2, x_w1I3, x_w1I4, x_w1I5, x_w1R1, x_w1R2, x_sI1, x_sI14, x_sI18, x_sI19, x_sI2, x_sI20, x_sI24, x_sI25, x_sI3, x_sI31, x_sI33, x_sI38, x_sI39, x_sR11, x_sR42, x_w0sI3, x_w0sI4, x_w0sI5, x_w0sR, x_w1sI3, x_w1sI4, x_w1sI5, x_w1sR, x_A1n, x_sA1n, x_A13n, x_sA13n, x_A14n, x_sA14n, x_A21n, x_sA21n, x_A22n, x_sA22n, x_A27n, x_sA27n, x_A28n, x_sA28n, x_A29n, x_sA29n, x_A30n, x_sA30n, x_A31n, x_sA31n, x_A32n, x_sA32n, x_A33n, x_sA33n, x_A34n, x_sA34n, x_A35n, x_sA35n, x_A36n, x_sA36n, x_A37n, x_sA37n, x_A38n, x_sA38n, x_A39n, x_sA39n, x_A40n, x_sA40n, x_A41n, x_sA41n, x_A42n, x_sA42n, x_A43n, x_sA43n, evq_lv, evq_pure, lvM, m_hasn, m_isIn, m_one, m_isHang, x_w0R0e, x_R11e, x_w1R0e, Option.elim_some, Mo.bind_assoc, Mo.pure_bind, Mo.bind_pure, lit, nI_add, nI_mul, nI_subn, le_t, le_f, lt_t, lt_f, eq_t, eq_f, eqm_f, ltz_f, cond_true, cond_false, if_true, if_false, f1, hs_many (Z _) hH, ok.2.2.1.1, b1, g1]
          refine Ok.pM ⟨by rw [cs, List.length_append]; rfl, _, rfl, T1.zA (by decide), fun k hk => ?_⟩
          rw [cs] at hk ⊢
          rw [getD_app hk, zA_221, va_eq]
          rw [List.length_append, List.length_singleton] at hk
          by_cases y : k < (chF r B i).length
          · rw [if_pos y, va_ne (by omega)]; exact hC k y
          · rw [if_neg y, show k = (chF r B i).length by omega, va_eq]
      · obtain ⟨xs1, rfl, T1, hC⟩ := hI
        have f1 : xs1.2.1 200 = some ho := by rw [T1.2.1]; exact x1
        simp (disch := omega) only [x_I1, x_I14, x_I18, x_I19, x_I2, x_I20, x_I24, x_I25, x_I3, x_I31, x_I33, x_I38, x_I39, x_R0, x_R10, x_R12, x_R13, x_R15, x_R16, x_R17, x_R21, x_R22, x_R23, x_R26, x_R27, x_R28, x_R29, x_R30, x_R32, x_R34, x_R35, x_R36, x_R37, x_R4, x_R40, x_R41, x_R43, x_R44, x_R45, x_R5, x_R6, x_R7, x_R8, x_R9, x_chk, x_chk15, x_chk7, x_w0I3, x_w0I4, x_w0I5, x_w0R1, x_w0R2, x_w1I3, x_w1I4, x_w1I5, x_w1R1, x_w1R2, x_sI1, x_sI14, x_sI18, x_sI19, x_sI2, x_sI20, x_sI24, x_sI25, x_sI3, x_sI31, x_sI33, x_sI38, x_sI39, x_sR11, x_sR42, x_w0sI3, x_w0sI4, x_w0sI5, x_w0sR, x_w1sI3, x_w1sI4, x_w1sI5, x_w1sR, x_A1n, x_sA1n, x_A13n, x_sA13n, x_A14n, x_sA14n, x_A21n, x_sA21n, x_A22n, x_sA22n, x_A27n, x_sA27n, x_A28n, x_sA28n, x_A29n, x_sA29n, x_A30n, x_sA30n, x_A31n, x_sA31n, x_A32n, x_sA32n, x_A33n, x_sA33n, x_A34n, x_sA34n, x_A35n, x_sA35n, x_A36n, x_sA36n, x_A37n, x_sA37n, x_A38n, x_sA38n, x_A39n, x_sA39n, x_A40n, x_sA40n, x_A41n, x_sA41n, x_A42n, x_sA42n, x_A43n, x_sA43n, evq_lv, evq_pure, lvM, m_hasn, m_isIn, m_one, m_isHang, x_w0R0e, x_R11e, x_w1R0e, Option.elim_some, Mo.bind_assoc, Mo.pure_bind, Mo.bind_pure, lit, nI_add, nI_mul, nI_subn, le_t, le_f, lt_t, lt_f, eq_t, eq_f, eqm_f, ltz_f, cond_true, cond_false, if_true, if_false, f1, hs_many (Z _) hH, ok.2.2.1.1]
        exact Ok.pM ⟨rfl, xs1, rfl, T1, hC⟩
    subst q0 q1
    refine Two.r (P := fun v m' => v = nI (mkS (chF r B (rN r 2))) ∧ m2 = m') ?_ fun v m' ⟨q0, q1⟩ => ?_
    · refine Ok.forTs (S := Int32 × Int32) (fun i => (nI (mkS (chF r B i)), nI i)) (rN r 2) (fun i m' => m2 = m') (i := 0) rfl (by omega) rfl (fun i m' hi hI => ?_) (fun m' hI => ?_)
      · subst hI
        have b1 := (hBm i hi).1
        have b4 := (hBm i hi).2
        obtain ⟨g1, g4⟩ := hgN_ok ok hi
        have cs := chF_succ r B i
        have o1 := shl_n i (by omega)
        by_cases z : B i = hgN r i
        · rw [if_pos z] at cs
          simp (disch := omega) only [tq_I, tq_L, tq_sI, tq_sL, tq_lv, tq_pure, lvT, TM.bind_assoc, TM.pure_bind, TM.bind_pure, te_An, te_Bn, te_sAn, te_sBn, t_doors, t_hasn, t_isIn, t_of0, t_of1, t_of2, t_of3, t_of4, t_of5, t_of6, t_of7, lit, nI_add, nI_mul, nI_subn, le_t, le_f, lt_t, lt_f, eq_t, eq_f, eqm_f, ltz_f, cond_true, cond_false, if_true, if_false, x4, ok.2.2.1.1, b1, g1]
          exact Ok.pT ⟨by rw [cs], rfl⟩
        · rw [if_neg z] at cs
          simp (disch := omega) only [tq_I, tq_L, tq_sI, tq_sL, tq_lv, tq_pure, lvT, TM.bind_assoc, TM.pure_bind, TM.bind_pure, te_An, te_Bn, te_sAn, te_sBn, t_doors, t_hasn, t_isIn, t_of0, t_of1, t_of2, t_of3, t_of4, t_of5, t_of6, t_of7, lit, nI_add, nI_mul, nI_subn, le_t, le_f, lt_t, lt_f, eq_t, eq_f, eqm_f, ltz_f, cond_true, cond_false, if_true, if_false, x4, ok.2.2.1.1, b1, g1, o1, nI_or]
          exact Ok.pT ⟨by rw [cs, mkS_app], rfl⟩
      · subst hI
        simp (disch := omega) only [tq_I, tq_L, tq_sI, tq_sL, tq_lv, tq_pure, lvT, TM.bind_assoc, TM.pure_bind, TM.bind_pure, te_An, te_Bn, te_sAn, te_sBn, t_doors, t_hasn, t_isIn, t_of0, t_of1, t_of2, t_of3, t_of4, t_of5, t_of6, t_of7, lit, nI_add, nI_mul, nI_subn, le_t, le_f, lt_t, lt_f, eq_t, eq_f, eqm_f, ltz_f, cond_true, cond_false, if_true, if_false, x4, ok.2.2.1.1]
        exact Ok.pT ⟨rfl, rfl⟩
    subst q0 q1
    have hlen := chF_len r B (rN r 2)
    have hup := chF_up r B (rN r 2)
    have hlt : ∀ k, k < (chF r B (rN r 2)).length → (chF r B (rN r 2)).getD k 0 < rN r 2 := fun k hk => chF_lt (getD_mem hk)
    have hAl : mkS (chF r B (rN r 2)) < 2 ^ rN r 2 := mkS_lt (fun d hd => chF_lt hd)
    have hp1 := pow_le_1024 (k := (chF r B (rN r 2)).length) (by omega)
    have hp2 := pow_le_1024 (k := rN r 2) hm
    have hq1 : 1 ≤ 2 ^ (chF r B (rN r 2)).length := Nat.one_le_two_pow
    have hq2 : 1 ≤ 2 ^ rN r 2 := Nat.one_le_two_pow
    have sh1 := shl_n (chF r B (rN r 2)).length (by omega)
    have sh2 := shl_n (rN r 2) (by omega)
    simp (disch := omega) only [x_I1, x_I14, x_I18, x_I19, x_I2, x_I20, x_I24, x_I25, x_I3, x_I31, x_I33, x_I38, x_I39, x_R0, x_R10, x_R12, x_R13, x_R15, x_R16, x_R17, x_R21, x_R22, x_R23, x_R26, x_R27, x_R28, x_R29, x_R30, x_R32, x_R34, x_R35, x_R36, x_R37, x_R4, x_R40, x_R41, x_R43, x_R44, x_R45, x_R5, x_R6, x_R7, x_R8, x_R9, x_chk, x_chk15, x_chk7, x_w0I3, x_w0I4, x_w0I5, x_w0R1, x_w0R2, x_w1I3, x_w1I4, x_w1I5, x_w1R1, x_w1R2, x_sI1, x_sI14, x_sI18, x_sI19, x_sI2, x_sI20, x_sI24, x_sI25, x_sI3, x_sI31, x_sI33, x_sI38, x_sI39, x_sR11, x_sR42, x_w0sI3, x_w0sI4, x_w0sI5, x_w0sR, x_w1sI3, x_w1sI4, x_w1sI5, x_w1sR, x_A1n, x_sA1n, x_A13n, x_sA13n, x_A14n, x_sA14n, x_A21n, x_sA21n, x_A22n, x_sA22n, x_A27n, x_sA27n, x_A28n, x_sA28n, x_A29n, x_sA29n, x_A30n, x_sA30n, x_A31n, x_sA31n, x_A32n, x_sA32n, x_A33n, x_sA33n, x_A34n, x_sA34n, x_A35n, x_sA35n, x_A36n, x_sA36n, x_A37n, x_sA37n, x_A38n, x_sA38n, x_A39n, x_sA39n, x_A40n, x_sA40n, x_A41n, x_sA41n, x_A42n, x_sA42n, x_A43n, x_sA43n, evq_lv, evq_pure, lvM, m_hasn, m_isIn, m_one, m_isHang, x_w0R0e, x_R11e, x_w1R0e, Option.elim_some, Mo.bind_assoc, Mo.pure_bind, Mo.bind_pure, lit, nI_add, nI_mul, nI_subn, le_t, le_f, lt_t, lt_f, eq_t, eq_f, eqm_f, ltz_f, cond_true, cond_false, if_true, if_false, tq_I, tq_L, tq_sI, tq_sL, tq_lv, tq_pure, lvT, TM.bind_assoc, TM.pure_bind, TM.bind_pure, te_An, te_Bn, te_sAn, te_sBn, t_doors, t_hasn, t_isIn, t_of0, t_of1, t_of2, t_of3, t_of4, t_of5, t_of6, t_of7, lit, nI_add, nI_mul, nI_subn, le_t, le_f, lt_t, lt_f, eq_t, eq_f, eqm_f, ltz_f, cond_true, cond_false, if_true, if_false, sh1, sh2, x4, ok.2.2.1.1]
    -- the tables
    refine Two.l (P := fun _ h' => ∃ xs2, h' = mkX n G xs2 ∧ sameX [] [28, 29, 30] xs1 xs2 ∧ TabC r B xs2 0) ?_ fun _ h' ⟨xs2, q1, T2, tabC⟩ => ?_
    · refine Ok.loopM (S := Int32) (E := Unit) (fun k s h' => s = pos k ∧ k ≤ 2 ^ (chF r B (rN r 2)).length ∧ ∃ xs2, h' = mkX n G xs2 ∧ sameX [] [28, 29, 30] xs1 xs2 ∧ TabC r B xs2 k) (fun k s h' hI => ?_) (2 ^ (chF r B (rN r 2)).length) _ _ ⟨?_, Nat.le_refl _, xs1, rfl, sameX.rf, fun _ => 0, fun t h1 h2 => absurd h2 (by omega)⟩
      · obtain ⟨rfl, hk, xs2, rfl, T2, tab⟩ := hI
        cases k with
        | zero => simp (disch := omega) only [x_I1, x_I14, x_I18, x_I19, x_I2, x_I20, x_I24, x_I25, x_I3, x_I31, x_I33, x_I38, x_I39, x_R0, x_R10, x_R12, x_R13, x_R15, x_R16, x_R17, x_R21, x_R22, x_R23, x_R26, x_R27, x_R28, x_R29, x_R30, x_R32, x_R34, x_R35, x_R36, x_R37, x_R4, x_R40, x_R41, x_R43, x_R44, x_R45, x_R5, x_R6, x_R7, x_R8, x_R9, x_chk, x_chk15, x_chk7, x_w0I3, x_w0I4, x_w0I5, x_w0R1, x_w0R2, x_w1I3, x_w1I4, x_w1I5, x_w1R1, x_w1R2, x_sI1, x_sI14, x_sI18, x_sI19, x_sI2, x_sI20, x_sI24, x_sI25, x_sI3, x_sI31, x_sI33, x_sI38, x_sI39, x_sR11, x_sR42, x_w0sI3, x_w0sI4, x_w0sI5, x_w0sR, x_w1sI3, x_w1sI4, x_w1sI5, x_w1sR, x_A1n, x_sA1n, x_A13n, x_sA13n, x_A14n, x_sA14n, x_A21n, x_sA21n, x_A22n, x_sA22n, x_A27n, x_sA27n, x_A28n, x_sA28n, x_A29n, x_sA29n, x_A30n, x_sA30n, x_A31n, x_sA31n, x_A32n, x_sA32n, x_A33n, x_sA33n, x_A34n, x_sA34n, x_A35n, x_sA35n, x_A36n, x_sA36n, x_A37n, x_sA37n, x_A38n, x_sA38n, x_A39n, x_sA39n, x_A40n, x_sA40n, x_A41n, x_sA41n, x_A42n, x_sA42n, x_A43n, x_sA43n, evq_lv, evq_pure, lvM, m_hasn, m_isIn, m_one, m_isHang, x_w0R0e, x_R11e, x_w1R0e, Option.elim_some, Mo.bind_assoc, Mo.pure_bind, Mo.bind_pure, lit, nI_add, nI_mul, nI_subn, le_t, le_f, lt_t, lt_f, eq_t, eq_f, eqm_f, ltz_f, cond_true, cond_false, if_true, if_false, pos_z, posz_t]; exact Ok.pM ⟨xs2, rfl, T2, tab⟩
        | succ t =>
          have T := Ok.bM (f := fun _ => Mo.lv (nI t + -nI 1) (fun v58 => Mo.pure (Sum.inl v58 : Int32 ⊕ Unit))) (Q := lpQ (fun s' m' => ∃ k', k' < t + 1 ∧ s' = pos k' ∧ k' ≤ 2 ^ (chF r B (rN r 2)).length ∧ ∃ xs2, m' = mkX n G xs2 ∧ sameX [] [28, 29, 30] xs1 xs2 ∧ TabC r B xs2 k') (fun _ h' => ∃ xs2, h' = mkX n G xs2 ∧ sameX [] [28, 29, 30] xs1 xs2 ∧ TabC r B xs2 0)) (tabC_turn (B := B) Z hH ok (xs := xs2) (by rw [T2.2.1, T1.2.1]; exact x1) (fun d hd => by rw [T2.2.2.1 200 (by decide), T1.2.2.1 200 (by decide)]; exact x3 d hd) (fun d hd => by rw [T2.2.2.1 17 (by decide), T1.2.2.1 17 (by decide)]; exact hBx d hd) (fun k hk => by rw [T2.2.2.1 26 (by decide)]; exact hC k hk) (t := t) (by omega) tab) (fun _ h' ⟨xs3, q1, q2, q3⟩ => by
            subst q1
            simp (disch := omega) only [x_I1, x_I14, x_I18, x_I19, x_I2, x_I20, x_I24, x_I25, x_I3, x_I31, x_I33, x_I38, x_I39, x_R0, x_R10, x_R12, x_R13, x_R15, x_R16, x_R17, x_R21, x_R22, x_R23, x_R26, x_R27, x_R28, x_R29, x_R30, x_R32, x_R34, x_R35, x_R36, x_R37, x_R4, x_R40, x_R41, x_R43, x_R44, x_R45, x_R5, x_R6, x_R7, x_R8, x_R9, x_chk, x_chk15, x_chk7, x_w0I3, x_w0I4, x_w0I5, x_w0R1, x_w0R2, x_w1I3, x_w1I4, x_w1I5, x_w1R1, x_w1R2, x_sI1, x_sI14, x_sI18, x_sI19, x_sI2, x_sI20, x_sI24, x_sI25, x_sI3, x_sI31, x_sI33, x_sI38, x_sI39, x_sR11, x_sR42, x_w0sI3, x_w0sI4, x_w0sI5, x_w0sR, x_w1sI3, x_w1sI4, x_w1sI5, x_w1sR, x_A1n, x_sA1n, x_A13n, x_sA13n, x_A14n, x_sA14n, x_A21n, x_sA21n, x_A22n, x_sA22n, x_A27n, x_sA27n, x_A28n, x_sA28n, x_A29n, x_sA29n, x_A30n, x_sA30n, x_A31n, x_sA31n, x_A32n, x_sA32n, x_A33n, x_sA33n, x_A34n, x_sA34n, x_A35n, x_sA35n, x_A36n, x_sA36n, x_A37n, x_sA37n, x_A38n, x_sA38n, x_A39n, x_sA39n, x_A40n, x_sA40n, x_A41n, x_sA41n, x_A42n, x_sA42n, x_A43n, x_sA43n, evq_lv, evq_pure, lvM, m_hasn, m_isIn, m_one, m_isHang, x_w0R0e, x_R11e, x_w1R0e, Option.elim_some, Mo.bind_assoc, Mo.pure_bind, Mo.bind_pure, lit, nI_add, nI_mul, nI_subn, le_t, le_f, lt_t, lt_f, eq_t, eq_f, eqm_f, ltz_f, cond_true, cond_false, if_true, if_false, pos_1]
            exact Ok.pM ⟨t, by omega, rfl, by omega, xs3, rfl, T2.tr q2, q3⟩)
          simp (disch := omega) only [x_I1, x_I14, x_I18, x_I19, x_I2, x_I20, x_I24, x_I25, x_I3, x_I31, x_I33, x_I38, x_I39, x_R0, x_R10, x_R12, x_R13, x_R15, x_R16, x_R17, x_R21, x_R22, x_R23, x_R26, x_R27, x_R28, x_R29, x_R30, x_R32, x_R34, x_R35, x_R36, x_R37, x_R4, x_R40, x_R41, x_R43, x_R44, x_R45, x_R5, x_R6, x_R7, x_R8, x_R9, x_chk, x_chk15, x_chk7, x_w0I3, x_w0I4, x_w0I5, x_w0R1, x_w0R2, x_w1I3, x_w1I4, x_w1I5, x_w1R1, x_w1R2, x_sI1, x_sI14, x_sI18, x_sI19, x_sI2, x_sI20, x_sI24, x_sI25, x_sI3, x_sI31, x_sI33, x_sI38, x_sI39, x_sR11, x_sR42, x_w0sI3, x_w0sI4, x_w0sI5, x_w0sR, x_w1sI3, x_w1sI4, x_w1sI5, x_w1sR, x_A1n, x_sA1n, x_A13n, x_sA13n, x_A14n, x_sA14n, x_A21n, x_sA21n, x_A22n, x_sA22n, x_A27n, x_sA27n, x_A28n, x_sA28n, x_A29n, x_sA29n, x_A30n, x_sA30n, x_A31n, x_sA31n, x_A32n, x_sA32n, x_A33n, x_sA33n, x_A34n, x_sA34n, x_A35n, x_sA35n, x_A36n, x_sA36n, x_A37n, x_sA37n, x_A38n, x_sA38n, x_A39n, x_sA39n, x_A40n, x_sA40n, x_A41n, x_sA41n, x_A42n, x_sA42n, x_A43n, x_sA43n, evq_lv, evq_pure, lvM, m_hasn, m_isIn, m_one, m_isHang, x_w0R0e, x_R11e, x_w1R0e, Option.elim_some, Mo.bind_assoc, Mo.pure_bind, Mo.bind_pure, lit, nI_add, nI_mul, nI_subn, le_t, le_f, lt_t, lt_f, eq_t, eq_f, eqm_f, ltz_f, cond_true, cond_false, if_true, if_false, pos_s, pos_1, x_cpyM, sh1]
          simp (disch := omega) only [x_I1, x_I14, x_I18, x_I19, x_I2, x_I20, x_I24, x_I25, x_I3, x_I31, x_I33, x_I38, x_I39, x_R0, x_R10, x_R12, x_R13, x_R15, x_R16, x_R17, x_R21, x_R22, x_R23, x_R26, x_R27, x_R28, x_R29, x_R30, x_R32, x_R34, x_R35, x_R36, x_R37, x_R4, x_R40, x_R41, x_R43, x_R44, x_R45, x_R5, x_R6, x_R7, x_R8, x_R9, x_chk, x_chk15, x_chk7, x_w0I3, x_w0I4, x_w0I5, x_w0R1, x_w0R2, x_w1I3, x_w1I4, x_w1I5, x_w1R1, x_w1R2, x_sI1, x_sI14, x_sI18, x_sI19, x_sI2, x_sI20, x_sI24, x_sI25, x_sI3, x_sI31, x_sI33, x_sI38, x_sI39, x_sR11, x_sR42, x_w0sI3, x_w0sI4, x_w0sI5, x_w0sR, x_w1sI3, x_w1sI4, x_w1sI5, x_w1sR, x_A1n, x_sA1n, x_A13n, x_sA13n, x_A14n, x_sA14n, x_A21n, x_sA21n, x_A22n, x_sA22n, x_A27n, x_sA27n, x_A28n, x_sA28n, x_A29n, x_sA29n, x_A30n, x_sA30n, x_A31n, x_sA31n, x_A32n, x_sA32n, x_A33n, x_sA33n, x_A34n, x_sA34n, x_A35n, x_sA35n, x_A36n, x_sA36n, x_A37n, x_sA37n, x_A38n, x_sA38n, x_A39n, x_sA39n, x_A40n, x_sA40n, x_A41n, x_sA41n, x_A42n, x_sA42n, x_A43n, x_sA43n, evq_lv, evq_pure, lvM, m_hasn, m_isIn, m_one, m_isHang, x_w0R0e, x_R11e, x_w1R0e, Option.elim_some, Mo.bind_assoc, Mo.pure_bind, Mo.bind_pure, lit, nI_add, nI_mul, nI_subn, le_t, le_f, lt_t, lt_f, eq_t, eq_f, eqm_f, ltz_f, cond_true, cond_false, if_true, if_false, pos_1, x_cpyM] at T
          exact T
      · obtain ⟨q, hq⟩ : ∃ q, 2 ^ (chF r B (rN r 2)).length = q + 1 := ⟨2 ^ (chF r B (rN r 2)).length - 1, by omega⟩
        rw [hq]; rfl
    subst q1
    refine Two.r (P := fun _ m' => sameB [] [30, 39, 40] [] m2 m' ∧ TabR r B m' 0) ?_ fun _ m3 ⟨U2, tabR⟩ => ?_
    · refine Ok.loopT (S := Int32) (E := Unit) (fun k s m' => s = pos k ∧ k ≤ 2 ^ rN r 2 ∧ sameB [] [30, 39, 40] [] m2 m' ∧ TabR r B m' k) (fun k s m' hI => ?_) (2 ^ rN r 2) _ _ ⟨?_, Nat.le_refl _, sameB.rf, fun _ => 0, fun t h1 h2 => absurd h2 (by omega)⟩
      · obtain ⟨rfl, hk, U2, tab⟩ := hI
        cases k with
        | zero => simp (disch := omega) only [tq_I, tq_L, tq_sI, tq_sL, tq_lv, tq_pure, lvT, TM.bind_assoc, TM.pure_bind, TM.bind_pure, te_An, te_Bn, te_sAn, te_sBn, t_doors, t_hasn, t_isIn, t_of0, t_of1, t_of2, t_of3, t_of4, t_of5, t_of6, t_of7, lit, nI_add, nI_mul, nI_subn, le_t, le_f, lt_t, lt_f, eq_t, eq_f, eqm_f, ltz_f, cond_true, cond_false, if_true, if_false, pos_z, posz_t]; exact Ok.pT ⟨U2, tab⟩
        | succ s =>
          have hwi := wthin_nI (s := s) (A := mkS (chF r B (rN r 2))) (by omega) (by omega)
          have hr3 : m'.2.2.1 14 = r := (U2.2.1 14 (by decide)).trans x4
          by_cases hw : wthin s (mkS (chF r B (rN r 2)))
          · have W3 : swOk m' r (rN r 2) := ⟨fun e he => by rw [U2.2.1 29 (by decide)]; exact x5.1 e he, fun e k he hk => by rw [U2.2.2 27 (by decide), U2.2.2 28 (by decide)]; exact x5.2 e k he hk⟩
            have T := Ok.bT (f := fun _ => TM.lv (nI s + -nI 1) (fun v58 => TM.pure (Sum.inl v58 : Int32 ⊕ Unit))) (Q := lpQ (fun s' m' => ∃ k', k' < s + 1 ∧ s' = pos k' ∧ k' ≤ 2 ^ rN r 2 ∧ sameB [] [30, 39, 40] [] m2 m' ∧ TabR r B m' k') (fun _ m' => sameB [] [30, 39, 40] [] m2 m' ∧ TabR r B m' 0)) (tabR_turn (B := B) ok hr3 W3 (fun d hd => by rw [U2.2.1 31 (by decide)]; exact hBm d hd) (s := s) (by omega) hw tab) (fun _ m4 ⟨q2, q3⟩ => by
              simp (disch := omega) only [tq_I, tq_L, tq_sI, tq_sL, tq_lv, tq_pure, lvT, TM.bind_assoc, TM.pure_bind, TM.bind_pure, te_An, te_Bn, te_sAn, te_sBn, t_doors, t_hasn, t_isIn, t_of0, t_of1, t_of2, t_of3, t_of4, t_of5, t_of6, t_of7, lit, nI_add, nI_mul, nI_subn, le_t, le_f, lt_t, lt_f, eq_t, eq_f, eqm_f, ltz_f, cond_true, cond_false, if_true, if_false, pos_1]
              exact Ok.pT ⟨s, by omega, rfl, by omega, U2.tr q2, q3⟩)
            simp (disch := omega) only [tq_I, tq_L, tq_sI, tq_sL, tq_lv, tq_pure, lvT, TM.bind_assoc, TM.pure_bind, TM.bind_pure, te_An, te_Bn, te_sAn, te_sBn, t_doors, t_hasn, t_isIn, t_of0, t_of1, t_of2, t_of3, t_of4, t_of5, t_of6, t_of7, lit, nI_add, nI_mul, nI_subn, le_t, le_f, lt_t, lt_f, eq_t, eq_f, eqm_f, ltz_f, cond_true, cond_false, if_true, if_false, pos_s, pos_1, if_pos (hwi.mpr hw)]
            simp (disch := omega) only [tq_I, tq_L, tq_sI, tq_sL, tq_lv, tq_pure, lvT, TM.bind_assoc, TM.pure_bind, TM.bind_pure, te_An, te_Bn, te_sAn, te_sBn, t_doors, t_hasn, t_isIn, t_of0, t_of1, t_of2, t_of3, t_of4, t_of5, t_of6, t_of7, lit, nI_add, nI_mul, nI_subn, le_t, le_f, lt_t, lt_f, eq_t, eq_f, eqm_f, ltz_f, cond_true, cond_false, if_true, if_false, pos_1] at T
            exact T
          · simp (disch := omega) only [tq_I, tq_L, tq_sI, tq_sL, tq_lv, tq_pure, lvT, TM.bind_assoc, TM.pure_bind, TM.bind_pure, te_An, te_Bn, te_sAn, te_sBn, t_doors, t_hasn, t_isIn, t_of0, t_of1, t_of2, t_of3, t_of4, t_of5, t_of6, t_of7, lit, nI_add, nI_mul, nI_subn, le_t, le_f, lt_t, lt_f, eq_t, eq_f, eqm_f, ltz_f, cond_true, cond_false, if_true, if_false, pos_s, pos_1, if_neg (fun z => hw (hwi.mp z))]
            refine Ok.pT ⟨s, by omega, rfl, by omega, U2, ?_⟩
            obtain ⟨f, hf⟩ := tab
            refine ⟨f, fun x hx1 hx2 hx3 => hf x ?_ hx2 hx3⟩
            have : x ≠ s := fun z => hw (z ▸ hx3)
            omega
      · obtain ⟨q, hq⟩ : ∃ q, 2 ^ rN r 2 = q + 1 := ⟨2 ^ rN r 2 - 1, by omega⟩
        rw [hq]; rfl
    -- what they tell is the same
    obtain ⟨b, hbT⟩ := tabC
    obtain ⟨f, hfT⟩ := tabR
    have wl : ∀ s, wthin s (mkS (chF r B (rN r 2))) → s < 2 ^ rN r 2 := fun s hs => bits_lt fun i hi => by
      cases hb' : s.testBit i with
      | false => rfl
      | true =>
        have := hs i hb'
        rw [mkS_bit, decide_eq_true_eq] at this
        have := chF_lt this
        omega
    have bf : ∀ t, t < 2 ^ (chF r B (rN r 2)).length → b t = f (expS (chF r B (rN r 2)) t) := fun t ht => tables hup (fun t ht => (hbT t (Nat.zero_le _) ht).2.2) (fun s hs => (hfT s (Nat.zero_le _) (wl s hs) hs).2.2) (2 ^ (chF r B (rN r 2)).length - 1 - t) t (by omega)
    have hA0 : ∀ d, (mkS (chF r B (rN r 2))).testBit d = true → d < rN r 2 := fun d hd => by
      rw [mkS_bit, decide_eq_true_eq] at hd; exact chF_lt hd
    generalize hL : chF r B (rN r 2) = L at *
    have hb0 := hbT 0 (Nat.zero_le _) (by omega)
    have hf0 := hfT 0 (Nat.zero_le _) (by omega) (fun d hd => by simp at hd)
    have bf0 := bf 0 (by omega)
    rw [expS_0] at bf0
    simp (disch := omega) only [x_I1, x_I14, x_I18, x_I19, x_I2, x_I20, x_I24, x_I25, x_I3, x_I31, x_I33, x_I38, x_I39, x_R0, x_R10, x_R12, x_R13, x_R15, x_R16, x_R17, x_R21, x_R22, x_R23, x_R26, x_R27, x_R28, x_R29, x_R30, x_R32, x_R34, x_R35, x_R36, x_R37, x_R4, x_R40, x_R41, x_R43, x_R44, x_R45, x_R5, x_R6, x_R7, x_R8, x_R9, x_chk, x_chk15, x_chk7, x_w0I3, x_w0I4, x_w0I5, x_w0R1, x_w0R2, x_w1I3, x_w1I4, x_w1I5, x_w1R1, x_w1R2, x_sI1, x_sI14, x_sI18, x_sI19, x_sI2, x_sI20, x_sI24, x_sI25, x_sI3, x_sI31, x_sI33, x_sI38, x_sI39, x_sR11, x_sR42, x_w0sI3, x_w0sI4, x_w0sI5, x_w0sR, x_w1sI3, x_w1sI4, x_w1sI5, x_w1sR, x_A1n, x_sA1n, x_A13n, x_sA13n, x_A14n, x_sA14n, x_A21n, x_sA21n, x_A22n, x_sA22n, x_A27n, x_sA27n, x_A28n, x_sA28n, x_A29n, x_sA29n, x_A30n, x_sA30n, x_A31n, x_sA31n, x_A32n, x_sA32n, x_A33n, x_sA33n, x_A34n, x_sA34n, x_A35n, x_sA35n, x_A36n, x_sA36n, x_A37n, x_sA37n, x_A38n, x_sA38n, x_A39n, x_sA39n, x_A40n, x_sA40n, x_A41n, x_sA41n, x_A42n, x_sA42n, x_A43n, x_sA43n, evq_lv, evq_pure, lvM, m_hasn, m_isIn, m_one, m_isHang, x_w0R0e, x_R11e, x_w1R0e, Option.elim_some, Mo.bind_assoc, Mo.pure_bind, Mo.bind_pure, lit, nI_add, nI_mul, nI_subn, le_t, le_f, lt_t, lt_f, eq_t, eq_f, eqm_f, ltz_f, cond_true, cond_false, if_true, if_false, tq_I, tq_L, tq_sI, tq_sL, tq_lv, tq_pure, lvT, TM.bind_assoc, TM.pure_bind, TM.bind_pure, te_An, te_Bn, te_sAn, te_sBn, t_doors, t_hasn, t_isIn, t_of0, t_of1, t_of2, t_of3, t_of4, t_of5, t_of6, t_of7, lit, nI_add, nI_mul, nI_subn, le_t, le_f, lt_t, lt_f, eq_t, eq_f, eqm_f, ltz_f, cond_true, cond_false, if_true, if_false]
    have hC2 : ∀ k, k < L.length → xs2.2.2.1 26 k = nI (L.getD k 0) := fun k hk => by rw [T2.2.2.1 26 (by decide)]; exact hC k hk
    -- the order
    refine Two.b (P := fun _ h' _ m' => ∃ xs3, h' = mkX n G xs3 ∧ sameX [] [27] xs2 xs3 ∧ sameB [42] [41] [] m3 m' ∧ m'.1 42 = nI L.length ∧ ∀ j, j < L.length → xs3.2.2.1 27 j = m'.2.2.1 41 j) ?_ fun _ h' _ m' ⟨xs3, q1, T3, U3, q2, q3⟩ => ?_
    · refine Two.loop (S := Int32 × Int32) (T := Int32) (fun k s h' t' m' => ∃ t i xs3, k + i = L.length ∧ pop t = i ∧ t < 2 ^ L.length ∧ s = (nI t, nI i) ∧ t' = nI (expS L t) ∧ h' = mkX n G xs3 ∧ sameX [] [27] xs2 xs3 ∧ sameB [42] [41] [] m3 m' ∧ m'.1 42 = nI i ∧ (∀ j, j < i → xs3.2.2.1 27 j = m'.2.2.1 41 j) ∧ b t ≤ b 0) (fun k s h' t' m' hI => ?_) L.length _ _ _ _ ⟨0, 0, xs2, by omega, pop_zero, by omega, rfl, by rw [expS_0], rfl, sameX.rf, sameB.rf.uI (by decide), by simp (disch := omega) only [uI_1, uI_2, uA_1, uA_21, uA_22, uA_3, uB_1, uB_21, uB_22, uB_3, uL_1, uL_21, uL_22, zI_1, zI_2, zR_1, zR_21, zR_22, zA_1, zA_21, zA_221, zA_222, zAA_1, zAA_21, zAA_221, zAA_222, zW_1, zW_21, zW_221, zW_2221, zW_2222, zL_1, zL_21, zL_221, zL_2221, zL_22221, zL_22222, va_eq, va_ne], fun j hj => by omega, Nat.le_refl _⟩
      obtain ⟨t, i, xs3, hk, hp, ht, rfl, rfl, rfl, T3, U3, k42, q3, hbt⟩ := hI
      have hEl : expS L t < 2 ^ rN r 2 := wl _ (expS_within L t)
      dsimp only
      by_cases hi : i < L.length
      · have hnf : t ≠ 2 ^ L.length - 1 := fun z => by
          have h1 := pop_full L.length (by omega) t (by omega) ht
          have h2 : popN (2 ^ L.length - 1) = L.length := (show ∀ n : Nat, n < 11 → popN (2 ^ n - 1) = n by decide +kernel) _ (by omega)
          rw [← z, ← popN_eq (by omega)] at h2
          omega
        have hne : expS L t ≠ mkS L := fun z => hnf ((expS_full hup ht).mp z)
        have orl : ∀ {j}, j < L.length → t ||| 2 ^ j < 2 ^ L.length := fun {j} hj => Nat.or_lt_two_pow ht (Nat.pow_lt_pow_right (by decide) hj)
        obtain ⟨-, b100, u, u1, u2⟩ := hbT t (Nat.zero_le _) ht
        obtain ⟨k0, hk0⟩ : ∃ k0, k0 < L.length ∧ t.testBit k0 = false ∧ b (t ||| 2 ^ k0) ≤ b 0 := by
          rcases u1 with ⟨z, -⟩ | ⟨-, ⟨k0, ⟨z1, z2⟩, z3⟩, -⟩
          · exact absurd z hnf
          · exact ⟨k0, z1, z2, by dsimp only at z3; omega⟩
        have x29 : xs3.2.2.1 29 = xs2.2.2.1 29 := T3.2.2.1 29 (by decide)
        have m40 : m'.2.2.1 40 = m3.2.2.1 40 := U3.2.1 40 (by decide)
        simp (disch := omega) only [x_I1, x_I14, x_I18, x_I19, x_I2, x_I20, x_I24, x_I25, x_I3, x_I31, x_I33, x_I38, x_I39, x_R0, x_R10, x_R12, x_R13, x_R15, x_R16, x_R17, x_R21, x_R22, x_R23, x_R26, x_R27, x_R28, x_R29, x_R30, x_R32, x_R34, x_R35, x_R36, x_R37, x_R4, x_R40, x_R41, x_R43, x_R44, x_R45, x_R5, x_R6, x_R7, x_R8, x_R9, x_chk, x_chk15, x_chk7, x_w0I3, x_w0I4, x_w0I5, x_w0R1, x_w0R2, x_w1I3, x_w1I4, x_w1I5, x_w1R1, x_w1R2, x_sI1, x_sI14, x_sI18, x_sI19, x_sI2, x_sI20, x_sI24, x_sI25, x_sI3, x_sI31, x_sI33, x_sI38, x_sI39, x_sR11, x_sR42, x_w0sI3, x_w0sI4, x_w0sI5, x_w0sR, x_w1sI3, x_w1sI4, x_w1sI5, x_w1sR, x_A1n, x_sA1n, x_A13n, x_sA13n, x_A14n, x_sA14n, x_A21n, x_sA21n, x_A22n, x_sA22n, x_A27n, x_sA27n, x_A28n, x_sA28n, x_A29n, x_sA29n, x_A30n, x_sA30n, x_A31n, x_sA31n, x_A32n, x_sA32n, x_A33n, x_sA33n, x_A34n, x_sA34n, x_A35n, x_sA35n, x_A36n, x_sA36n, x_A37n, x_sA37n, x_A38n, x_sA38n, x_A39n, x_sA39n, x_A40n, x_sA40n, x_A41n, x_sA41n, x_A42n, x_sA42n, x_A43n, x_sA43n, evq_lv, evq_pure, lvM, m_hasn, m_isIn, m_one, m_isHang, x_w0R0e, x_R11e, x_w1R0e, Option.elim_some, Mo.bind_assoc, Mo.pure_bind, Mo.bind_pure, lit, nI_add, nI_mul, nI_subn, le_t, le_f, lt_t, lt_f, eq_t, eq_f, eqm_f, ltz_f, cond_true, cond_false, if_true, if_false, tq_I, tq_L, tq_sI, tq_sL, tq_lv, tq_pure, lvT, TM.bind_assoc, TM.pure_bind, TM.bind_pure, te_An, te_Bn, te_sAn, te_sBn, t_doors, t_hasn, t_isIn, t_of0, t_of1, t_of2, t_of3, t_of4, t_of5, t_of6, t_of7, lit, nI_add, nI_mul, nI_subn, le_t, le_f, lt_t, lt_f, eq_t, eq_f, eqm_f, ltz_f, cond_true, cond_false, if_true, if_false]
        -- the class looks for the next
        refine Two.l (P := fun v h' => h' = mkX n G xs3 ∧ isLeast (fun k => !t.testBit k && decide (b (t ||| 2 ^ k) ≤ b 0)) 0 L.length v) ?_ fun v h' ⟨y1, y2⟩ => ?_
        · refine Ok.loopM (S := Int32 × Int32) (E := Int32) (fun k s h' => k ≤ L.length ∧ s.2 = pos k ∧ h' = mkX n G xs3 ∧ isLeast (fun k => !t.testBit k && decide (b (t ||| 2 ^ k) ≤ b 0)) k L.length s.1) (fun k s h' hI => ?_) L.length _ _ ⟨by omega, ?_, rfl, isLeast.none⟩
          · obtain ⟨hk', hs, rfl, hV⟩ := hI
            obtain ⟨v, p⟩ := s
            dsimp only at hs hV ⊢
            subst hs
            cases k with
            | zero => simp (disch := omega) only [x_I1, x_I14, x_I18, x_I19, x_I2, x_I20, x_I24, x_I25, x_I3, x_I31, x_I33, x_I38, x_I39, x_R0, x_R10, x_R12, x_R13, x_R15, x_R16, x_R17, x_R21, x_R22, x_R23, x_R26, x_R27, x_R28, x_R29, x_R30, x_R32, x_R34, x_R35, x_R36, x_R37, x_R4, x_R40, x_R41, x_R43, x_R44, x_R45, x_R5, x_R6, x_R7, x_R8, x_R9, x_chk, x_chk15, x_chk7, x_w0I3, x_w0I4, x_w0I5, x_w0R1, x_w0R2, x_w1I3, x_w1I4, x_w1I5, x_w1R1, x_w1R2, x_sI1, x_sI14, x_sI18, x_sI19, x_sI2, x_sI20, x_sI24, x_sI25, x_sI3, x_sI31, x_sI33, x_sI38, x_sI39, x_sR11, x_sR42, x_w0sI3, x_w0sI4, x_w0sI5, x_w0sR, x_w1sI3, x_w1sI4, x_w1sI5, x_w1sR, x_A1n, x_sA1n, x_A13n, x_sA13n, x_A14n, x_sA14n, x_A21n, x_sA21n, x_A22n, x_sA22n, x_A27n, x_sA27n, x_A28n, x_sA28n, x_A29n, x_sA29n, x_A30n, x_sA30n, x_A31n, x_sA31n, x_A32n, x_sA32n, x_A33n, x_sA33n, x_A34n, x_sA34n, x_A35n, x_sA35n, x_A36n, x_sA36n, x_A37n, x_sA37n, x_A38n, x_sA38n, x_A39n, x_sA39n, x_A40n, x_sA40n, x_A41n, x_sA41n, x_A42n, x_sA42n, x_A43n, x_sA43n, evq_lv, evq_pure, lvM, m_hasn, m_isIn, m_one, m_isHang, x_w0R0e, x_R11e, x_w1R0e, Option.elim_some, Mo.bind_assoc, Mo.pure_bind, Mo.bind_pure, lit, nI_add, nI_mul, nI_subn, le_t, le_f, lt_t, lt_f, eq_t, eq_f, eqm_f, ltz_f, cond_true, cond_false, if_true, if_false, pos_z, posz_t]; exact Ok.pM ⟨rfl, hV⟩
            | succ e =>
              have he : e < L.length := by omega
              have hN := hasN t (by omega) e (by omega)
              cases hbe : t.testBit e with
              | true =>
                simp (disch := omega) only [x_I1, x_I14, x_I18, x_I19, x_I2, x_I20, x_I24, x_I25, x_I3, x_I31, x_I33, x_I38, x_I39, x_R0, x_R10, x_R12, x_R13, x_R15, x_R16, x_R17, x_R21, x_R22, x_R23, x_R26, x_R27, x_R28, x_R29, x_R30, x_R32, x_R34, x_R35, x_R36, x_R37, x_R4, x_R40, x_R41, x_R43, x_R44, x_R45, x_R5, x_R6, x_R7, x_R8, x_R9, x_chk, x_chk15, x_chk7, x_w0I3, x_w0I4, x_w0I5, x_w0R1, x_w0R2, x_w1I3, x_w1I4, x_w1I5, x_w1R1, x_w1R2, x_sI1, x_sI14, x_sI18, x_sI19, x_sI2, x_sI20, x_sI24, x_sI25, x_sI3, x_sI31, x_sI33, x_sI38, x_sI39, x_sR11, x_sR42, x_w0sI3, x_w0sI4, x_w0sI5, x_w0sR, x_w1sI3, x_w1sI4, x_w1sI5, x_w1sR, x_A1n, x_sA1n, x_A13n, x_sA13n, x_A14n, x_sA14n, x_A21n, x_sA21n, x_A22n, x_sA22n, x_A27n, x_sA27n, x_A28n, x_sA28n, x_A29n, x_sA29n, x_A30n, x_sA30n, x_A31n, x_sA31n, x_A32n, x_sA32n, x_A33n, x_sA33n, x_A34n, x_sA34n, x_A35n, x_sA35n, x_A36n, x_sA36n, x_A37n, x_sA37n, x_A38n, x_sA38n, x_A39n, x_sA39n, x_A40n, x_sA40n, x_A41n, x_sA41n, x_A42n, x_sA42n, x_A43n, x_sA43n, evq_lv, evq_pure, lvM, m_hasn, m_isIn, m_one, m_isHang, x_w0R0e, x_R11e, x_w1R0e, Option.elim_some, Mo.bind_assoc, Mo.pure_bind, Mo.bind_pure, lit, nI_add, nI_mul, nI_subn, le_t, le_f, lt_t, lt_f, eq_t, eq_f, eqm_f, ltz_f, cond_true, cond_false, if_true, if_false, pos_s, pos_1, hN, hbe]
                exact Ok.pM ⟨e, by omega, by omega, rfl, rfl, hV.up (by simp [hbe])⟩
              | false =>
                have o1 := oneB_n e (by omega)
                have o2 := (hbT (t ||| 2 ^ e) (Nat.zero_le _) (orl he)).1
                have o3 := (hbT (t ||| 2 ^ e) (Nat.zero_le _) (orl he)).2.1
                have o4 := orl he
                have o5 := hb0.1
                have o6 := hb0.2.1
                by_cases z : b 0 < b (t ||| 2 ^ e)
                · simp (disch := omega) only [x_I1, x_I14, x_I18, x_I19, x_I2, x_I20, x_I24, x_I25, x_I3, x_I31, x_I33, x_I38, x_I39, x_R0, x_R10, x_R12, x_R13, x_R15, x_R16, x_R17, x_R21, x_R22, x_R23, x_R26, x_R27, x_R28, x_R29, x_R30, x_R32, x_R34, x_R35, x_R36, x_R37, x_R4, x_R40, x_R41, x_R43, x_R44, x_R45, x_R5, x_R6, x_R7, x_R8, x_R9, x_chk, x_chk15, x_chk7, x_w0I3, x_w0I4, x_w0I5, x_w0R1, x_w0R2, x_w1I3, x_w1I4, x_w1I5, x_w1R1, x_w1R2, x_sI1, x_sI14, x_sI18, x_sI19, x_sI2, x_sI20, x_sI24, x_sI25, x_sI3, x_sI31, x_sI33, x_sI38, x_sI39, x_sR11, x_sR42, x_w0sI3, x_w0sI4, x_w0sI5, x_w0sR, x_w1sI3, x_w1sI4, x_w1sI5, x_w1sR, x_A1n, x_sA1n, x_A13n, x_sA13n, x_A14n, x_sA14n, x_A21n, x_sA21n, x_A22n, x_sA22n, x_A27n, x_sA27n, x_A28n, x_sA28n, x_A29n, x_sA29n, x_A30n, x_sA30n, x_A31n, x_sA31n, x_A32n, x_sA32n, x_A33n, x_sA33n, x_A34n, x_sA34n, x_A35n, x_sA35n, x_A36n, x_sA36n, x_A37n, x_sA37n, x_A38n, x_sA38n, x_A39n, x_sA39n, x_A40n, x_sA40n, x_A41n, x_sA41n, x_A42n, x_sA42n, x_A43n, x_sA43n, evq_lv, evq_pure, lvM, m_hasn, m_isIn, m_one, m_isHang, x_w0R0e, x_R11e, x_w1R0e, Option.elim_some, Mo.bind_assoc, Mo.pure_bind, Mo.bind_pure, lit, nI_add, nI_mul, nI_subn, le_t, le_f, lt_t, lt_f, eq_t, eq_f, eqm_f, ltz_f, cond_true, cond_false, if_true, if_false, pos_s, pos_1, hN, hbe, o1, nI_or, x29, o2, o5]
                  exact Ok.pM ⟨e, by omega, by omega, rfl, rfl, hV.up (by simp [z])⟩
                · simp (disch := omega) only [x_I1, x_I14, x_I18, x_I19, x_I2, x_I20, x_I24, x_I25, x_I3, x_I31, x_I33, x_I38, x_I39, x_R0, x_R10, x_R12, x_R13, x_R15, x_R16, x_R17, x_R21, x_R22, x_R23, x_R26, x_R27, x_R28, x_R29, x_R30, x_R32, x_R34, x_R35, x_R36, x_R37, x_R4, x_R40, x_R41, x_R43, x_R44, x_R45, x_R5, x_R6, x_R7, x_R8, x_R9, x_chk, x_chk15, x_chk7, x_w0I3, x_w0I4, x_w0I5, x_w0R1, x_w0R2, x_w1I3, x_w1I4, x_w1I5, x_w1R1, x_w1R2, x_sI1, x_sI14, x_sI18, x_sI19, x_sI2, x_sI20, x_sI24, x_sI25, x_sI3, x_sI31, x_sI33, x_sI38, x_sI39, x_sR11, x_sR42, x_w0sI3, x_w0sI4, x_w0sI5, x_w0sR, x_w1sI3, x_w1sI4, x_w1sI5, x_w1sR, x_A1n, x_sA1n, x_A13n, x_sA13n, x_A14n, x_sA14n, x_A21n, x_sA21n, x_A22n, x_sA22n, x_A27n, x_sA27n, x_A28n, x_sA28n, x_A29n, x_sA29n, x_A30n, x_sA30n, x_A31n, x_sA31n, x_A32n, x_sA32n, x_A33n, x_sA33n, x_A34n, x_sA34n, x_A35n, x_sA35n, x_A36n, x_sA36n, x_A37n, x_sA37n, x_A38n, x_sA38n, x_A39n, x_sA39n, x_A40n, x_sA40n, x_A41n, x_sA41n, x_A42n, x_sA42n, x_A43n, x_sA43n, evq_lv, evq_pure, lvM, m_hasn, m_isIn, m_one, m_isHang, x_w0R0e, x_R11e, x_w1R0e, Option.elim_some, Mo.bind_assoc, Mo.pure_bind, Mo.bind_pure, lit, nI_add, nI_mul, nI_subn, le_t, le_f, lt_t, lt_f, eq_t, eq_f, eqm_f, ltz_f, cond_true, cond_false, if_true, if_false, pos_s, pos_1, hN, hbe, o1, nI_or, x29, o2, o5]
                  exact Ok.pM ⟨e, by omega, by omega, rfl, rfl, isLeast.here he (by simp [hbe]; omega)⟩
          · obtain ⟨q, hq⟩ : ∃ q, L.length = q + 1 := ⟨L.length - 1, by omega⟩
            show nI (L.length - 1) = _
            rw [hq]; rfl
        subst y1
        rcases y2 with ⟨-, z⟩ | ⟨e, -, he, rfl, z1, z2⟩
        · have := z k0 (Nat.zero_le _) hk0.1
          simp [hk0.2.1, hk0.2.2] at this
        simp only [Bool.and_eq_true, Bool.not_eq_true', decide_eq_true_eq] at z1
        have hed := hlt e he
        -- the reference looks for it
        refine Two.r (P := fun v m'' => v = nI (L.getD e 0) ∧ m' = m'') ?_ fun v m'' ⟨y1, y3⟩ => ?_
        · refine Ok.forTs (S := Int32) (fun i => nI i) (L.getD e 0) (fun i m'' => m' = m'') (i := 0) rfl (by omega) rfl (fun d m'' hd hI => ?_) (fun m'' hI => ?_)
          · subst hI
            have hN1 := hasN (mkS L) (by omega) d (by omega)
            have hN2 := hasN (expS L t) (by omega) d (by omega)
            simp (disch := omega) only [tq_I, tq_L, tq_sI, tq_sL, tq_lv, tq_pure, lvT, TM.bind_assoc, TM.pure_bind, TM.bind_pure, te_An, te_Bn, te_sAn, te_sBn, t_doors, t_hasn, t_isIn, t_of0, t_of1, t_of2, t_of3, t_of4, t_of5, t_of6, t_of7, lit, nI_add, nI_mul, nI_subn, le_t, le_f, lt_t, lt_f, eq_t, eq_f, eqm_f, ltz_f, cond_true, cond_false, if_true, if_false, hN1]
            cases hA : (mkS L).testBit d with
            | false => simp (disch := omega) only [tq_I, tq_L, tq_sI, tq_sL, tq_lv, tq_pure, lvT, TM.bind_assoc, TM.pure_bind, TM.bind_pure, te_An, te_Bn, te_sAn, te_sBn, t_doors, t_hasn, t_isIn, t_of0, t_of1, t_of2, t_of3, t_of4, t_of5, t_of6, t_of7, lit, nI_add, nI_mul, nI_subn, le_t, le_f, lt_t, lt_f, eq_t, eq_f, eqm_f, ltz_f, cond_true, cond_false, if_true, if_false]; exact Ok.pT ⟨rfl, rfl⟩
            | true =>
              simp (disch := omega) only [tq_I, tq_L, tq_sI, tq_sL, tq_lv, tq_pure, lvT, TM.bind_assoc, TM.pure_bind, TM.bind_pure, te_An, te_Bn, te_sAn, te_sBn, t_doors, t_hasn, t_isIn, t_of0, t_of1, t_of2, t_of3, t_of4, t_of5, t_of6, t_of7, lit, nI_add, nI_mul, nI_subn, le_t, le_f, lt_t, lt_f, eq_t, eq_f, eqm_f, ltz_f, cond_true, cond_false, if_true, if_false, hN2]
              rw [mkS_bit, decide_eq_true_eq] at hA
              obtain ⟨j, hj, rfl⟩ := mem_getD hA
              have hje : j < e := by
                rcases Nat.lt_trichotomy j e with y | y | y
                · exact y
                · rw [y] at hd; omega
                · have := getD_lt hup y hj; omega
              rw [expS_has hup hj]
              cases hbj : t.testBit j with
              | true => simp (disch := omega) only [tq_I, tq_L, tq_sI, tq_sL, tq_lv, tq_pure, lvT, TM.bind_assoc, TM.pure_bind, TM.bind_pure, te_An, te_Bn, te_sAn, te_sBn, t_doors, t_hasn, t_isIn, t_of0, t_of1, t_of2, t_of3, t_of4, t_of5, t_of6, t_of7, lit, nI_add, nI_mul, nI_subn, le_t, le_f, lt_t, lt_f, eq_t, eq_f, eqm_f, ltz_f, cond_true, cond_false, if_true, if_false]; exact Ok.pT ⟨rfl, rfl⟩
              | false =>
                have o1 := shl_n (L.getD j 0) (by omega)
                have o3 := bf (t ||| 2 ^ j) (orl hj)
                rw [expS_or hj] at o3
                have hw2 : wthin (expS L t ||| 2 ^ (L.getD j 0)) (mkS L) := by rw [← expS_or hj]; exact expS_within L _
                have o2 := hfT _ (Nat.zero_le _) (wl _ hw2) hw2
                have o4 := wl _ hw2
                have o5 := hf0.1
                have o6 := hf0.2.1
                have o7 := z2 j (Nat.zero_le _) hje
                simp only [hbj, Bool.not_false, Bool.true_and, decide_eq_false_iff_not] at o7
                have o8 : f 0 < f (expS L t ||| 2 ^ (L.getD j 0)) := by rw [← o3, ← bf0]; omega
                have o9 := o2.2.1
                have o10 := o2.1
                simp (disch := omega) only [tq_I, tq_L, tq_sI, tq_sL, tq_lv, tq_pure, lvT, TM.bind_assoc, TM.pure_bind, TM.bind_pure, te_An, te_Bn, te_sAn, te_sBn, t_doors, t_hasn, t_isIn, t_of0, t_of1, t_of2, t_of3, t_of4, t_of5, t_of6, t_of7, lit, nI_add, nI_mul, nI_subn, le_t, le_f, lt_t, lt_f, eq_t, eq_f, eqm_f, ltz_f, cond_true, cond_false, if_true, if_false, o1, nI_or, m40, o10, o5]
                exact Ok.pT ⟨rfl, rfl⟩
          · subst hI
            have hN1 := hasN (mkS L) (by omega) (L.getD e 0) (by omega)
            have hN2 := hasN (expS L t) (by omega) (L.getD e 0) (by omega)
            have hA : (mkS L).testBit (L.getD e 0) = true := by rw [mkS_bit]; exact decide_eq_true (getD_mem he)
            rw [expS_has hup he, z1.1] at hN2
            rw [hA] at hN1
            have o1 := shl_n (L.getD e 0) (by omega)
            have o3 := bf (t ||| 2 ^ e) (orl he)
            rw [expS_or he] at o3
            have hw2 : wthin (expS L t ||| 2 ^ (L.getD e 0)) (mkS L) := by rw [← expS_or he]; exact expS_within L _
            have o2 := hfT _ (Nat.zero_le _) (wl _ hw2) hw2
            have o4 := wl _ hw2
            have o5 := hf0.1
            have o6 := hf0.2.1
            have o8 : f (expS L t ||| 2 ^ (L.getD e 0)) ≤ f 0 := by rw [← o3, ← bf0]; exact z1.2
            have o9 := o2.2.1
            have o10 := o2.1
            simp (disch := omega) only [tq_I, tq_L, tq_sI, tq_sL, tq_lv, tq_pure, lvT, TM.bind_assoc, TM.pure_bind, TM.bind_pure, te_An, te_Bn, te_sAn, te_sBn, t_doors, t_hasn, t_isIn, t_of0, t_of1, t_of2, t_of3, t_of4, t_of5, t_of6, t_of7, lit, nI_add, nI_mul, nI_subn, le_t, le_f, lt_t, lt_f, eq_t, eq_f, eqm_f, ltz_f, cond_true, cond_false, if_true, if_false, hN1, hN2, o1, nI_or, m40, o10, o5]
            exact Ok.pT ⟨rfl, rfl⟩
        subst y1 y3
        have o1 := oneB_n e (by omega)
        have o2 := shl_n (L.getD e 0) (by omega)
        have x26 : xs3.2.2.1 26 e = nI (L.getD e 0) := by rw [T3.2.2.1 26 (by decide)]; exact hC2 e he
        simp (disch := omega) only [x_I1, x_I14, x_I18, x_I19, x_I2, x_I20, x_I24, x_I25, x_I3, x_I31, x_I33, x_I38, x_I39, x_R0, x_R10, x_R12, x_R13, x_R15, x_R16, x_R17, x_R21, x_R22, x_R23, x_R26, x_R27, x_R28, x_R29, x_R30, x_R32, x_R34, x_R35, x_R36, x_R37, x_R4, x_R40, x_R41, x_R43, x_R44, x_R45, x_R5, x_R6, x_R7, x_R8, x_R9, x_chk, x_chk15, x_chk7, x_w0I3, x_w0I4, x_w0I5, x_w0R1, x_w0R2, x_w1I3, x_w1I4, x_w1I5, x_w1R1, x_w1R2, x_sI1, x_sI14, x_sI18, x_sI19, x_sI2, x_sI20, x_sI24, x_sI25, x_sI3, x_sI31, x_sI33, x_sI38, x_sI39, x_sR11, x_sR42, x_w0sI3, x_w0sI4, x_w0sI5, x_w0sR, x_w1sI3, x_w1sI4, x_w1sI5, x_w1sR, x_A1n, x_sA1n, x_A13n, x_sA13n, x_A14n, x_sA14n, x_A21n, x_sA21n, x_A22n, x_sA22n, x_A27n, x_sA27n, x_A28n, x_sA28n, x_A29n, x_sA29n, x_A30n, x_sA30n, x_A31n, x_sA31n, x_A32n, x_sA32n, x_A33n, x_sA33n, x_A34n, x_sA34n, x_A35n, x_sA35n, x_A36n, x_sA36n, x_A37n, x_sA37n, x_A38n, x_sA38n, x_A39n, x_sA39n, x_A40n, x_sA40n, x_A41n, x_sA41n, x_A42n, x_sA42n, x_A43n, x_sA43n, evq_lv, evq_pure, lvM, m_hasn, m_isIn, m_one, m_isHang, x_w0R0e, x_R11e, x_w1R0e, Option.elim_some, Mo.bind_assoc, Mo.pure_bind, Mo.bind_pure, lit, nI_add, nI_mul, nI_subn, le_t, le_f, lt_t, lt_f, eq_t, eq_f, eqm_f, ltz_f, cond_true, cond_false, if_true, if_false, tq_I, tq_L, tq_sI, tq_sL, tq_lv, tq_pure, lvT, TM.bind_assoc, TM.pure_bind, TM.bind_pure, te_An, te_Bn, te_sAn, te_sBn, t_doors, t_hasn, t_isIn, t_of0, t_of1, t_of2, t_of3, t_of4, t_of5, t_of6, t_of7, lit, nI_add, nI_mul, nI_subn, le_t, le_f, lt_t, lt_f, eq_t, eq_f, eqm_f, ltz_f, cond_true, cond_false, if_true, if_false, uI_1, uI_2, uA_1, uA_21, uA_22, uA_3, uB_1, uB_21, uB_22, uB_3, uL_1, uL_21, uL_22, zI_1, zI_2, zR_1, zR_21, zR_22, zA_1, zA_21, zA_221, zA_222, zAA_1, zAA_21, zAA_221, zAA_222, zW_1, zW_21, zW_221, zW_2221, zW_2222, zL_1, zL_21, zL_221, zL_2221, zL_22221, zL_22222, va_eq, va_ne, x26, o1, o2, nI_or, k42]
        refine Two.pp ⟨k - 1, by omega, t ||| 2 ^ e, i + 1, _, by omega, by rw [pop_or (by omega) (by omega) z1.1, hp], orl he, rfl, by rw [expS_or he], rfl, T3.zA (by decide), (U3.uA (by decide)).uI (by decide), by simp (disch := omega) only [uI_1, uI_2, uA_1, uA_21, uA_22, uA_3, uB_1, uB_21, uB_22, uB_3, uL_1, uL_21, uL_22, zI_1, zI_2, zR_1, zR_21, zR_22, zA_1, zA_21, zA_221, zA_222, zAA_1, zAA_21, zAA_221, zAA_222, zW_1, zW_21, zW_221, zW_2221, zW_2222, zL_1, zL_21, zL_221, zL_2221, zL_22221, zL_22222, va_eq, va_ne], fun j hj => ?_, z1.2⟩
        simp (disch := omega) only [uI_1, uI_2, uA_1, uA_21, uA_22, uA_3, uB_1, uB_21, uB_22, uB_3, uL_1, uL_21, uL_22, zI_1, zI_2, zR_1, zR_21, zR_22, zA_1, zA_21, zA_221, zA_222, zAA_1, zAA_21, zAA_221, zAA_222, zW_1, zW_21, zW_221, zW_2221, zW_2222, zL_1, zL_21, zL_221, zL_2221, zL_22221, zL_22222, va_eq, va_ne]
        by_cases y : j = i
        · rw [y, va_eq, va_eq]
        · rw [va_ne y, va_ne y]; exact q3 j (by omega)
      · have hiL : i = L.length := by omega
        have hfull : t = 2 ^ L.length - 1 := pop_full L.length (by omega) t (by omega) ht (by rw [← popN_eq (by omega)]; omega)
        have hEA := (expS_full hup ht).mpr hfull
        rw [hEA]
        simp (disch := omega) only [x_I1, x_I14, x_I18, x_I19, x_I2, x_I20, x_I24, x_I25, x_I3, x_I31, x_I33, x_I38, x_I39, x_R0, x_R10, x_R12, x_R13, x_R15, x_R16, x_R17, x_R21, x_R22, x_R23, x_R26, x_R27, x_R28, x_R29, x_R30, x_R32, x_R34, x_R35, x_R36, x_R37, x_R4, x_R40, x_R41, x_R43, x_R44, x_R45, x_R5, x_R6, x_R7, x_R8, x_R9, x_chk, x_chk15, x_chk7, x_w0I3, x_w0I4, x_w0I5, x_w0R1, x_w0R2, x_w1I3, x_w1I4, x_w1I5, x_w1R1, x_w1R2, x_sI1, x_sI14, x_sI18, x_sI19, x_sI2, x_sI20, x_sI24, x_sI25, x_sI3, x_sI31, x_sI33, x_sI38, x_sI39, x_sR11, x_sR42, x_w0sI3, x_w0sI4, x_w0sI5, x_w0sR, x_w1sI3, x_w1sI4, x_w1sI5, x_w1sR, x_A1n, x_sA1n, x_A13n, x_sA13n, x_A14n, x_sA14n, x_A21n, x_sA21n, x_A22n, x_sA22n, x_A27n, x_sA27n, x_A28n, x_sA28n, x_A29n, x_sA29n, x_A30n, x_sA30n, x_A31n, x_sA31n, x_A32n, x_sA32n, x_A33n, x_sA33n, x_A34n, x_sA34n, x_A35n, x_sA35n, x_A36n, x_sA36n, x_A37n, x_sA37n, x_A38n, x_sA38n, x_A39n, x_sA39n, x_A40n, x_sA40n, x_A41n, x_sA41n, x_A42n, x_sA42n, x_A43n, x_sA43n, evq_lv, evq_pure, lvM, m_hasn, m_isIn, m_one, m_isHang, x_w0R0e, x_R11e, x_w1R0e, Option.elim_some, Mo.bind_assoc, Mo.pure_bind, Mo.bind_pure, lit, nI_add, nI_mul, nI_subn, le_t, le_f, lt_t, lt_f, eq_t, eq_f, eqm_f, ltz_f, cond_true, cond_false, if_true, if_false, tq_I, tq_L, tq_sI, tq_sL, tq_lv, tq_pure, lvT, TM.bind_assoc, TM.pure_bind, TM.bind_pure, te_An, te_Bn, te_sAn, te_sBn, t_doors, t_hasn, t_isIn, t_of0, t_of1, t_of2, t_of3, t_of4, t_of5, t_of6, t_of7, lit, nI_add, nI_mul, nI_subn, le_t, le_f, lt_t, lt_f, eq_t, eq_f, eqm_f, ltz_f, cond_true, cond_false, if_true, if_false, if_pos]
        exact Two.pp ⟨xs3, rfl, T3, U3, by rw [k42, hiL], fun j hj => q3 j (by omega)⟩
    · subst q1
      have x29 : xs3.2.2.1 29 = xs2.2.2.1 29 := T3.2.2.1 29 (by decide)
      have m40 : m'.2.2.1 40 = m3.2.2.1 40 := U3.2.1 40 (by decide)
      have k31 : sameX [18, 19, 31] [15, 16, 17, 26, 27, 28, 29, 30] xs (zI xs3 31 (nI L.length)) := ((((S1.up (by decide) (by decide)).tr (T1.up (by decide) (by decide))).tr (T2.up (by decide) (by decide))).tr (T3.up (by decide) (by decide))).zI (by decide)
      have E2 : sameB [26, 32, 42] [24, 25, 29, 30, 31, 39, 40, 41] [27, 28] m1 m' := ((S2.up (by decide) (by decide) (by decide)).tr (U2.up (by decide) (by decide) (by decide))).tr (U3.up (by decide) (by decide) (by decide))
      have R10 := R1
      obtain ⟨-, -, -, -, -, -, -, r8, r9, r10, r11, r12, r13⟩ := R10
      have R5 : RelC n F g (zI xs3 31 (nI L.length)) m' := by
        refine R1.lists k31 E2 (by decide) (by decide) (by decide) (by decide) (by decide) ?_ ?_ (Rlist.of (by simp (disch := omega) only [uI_1, uI_2, uA_1, uA_21, uA_22, uA_3, uB_1, uB_21, uB_22, uB_3, uL_1, uL_21, uL_22, zI_1, zI_2, zR_1, zR_21, zR_22, zA_1, zA_21, zA_221, zA_222, zAA_1, zAA_21, zAA_221, zAA_222, zW_1, zW_21, zW_221, zW_2221, zW_2222, zL_1, zL_21, zL_221, zL_2221, zL_22221, zL_22222, va_eq, va_ne]) q2 (by omega) (by decide) q3) ?_ ?_ ?_
        · rw [k31.1 24 (by decide), k31.2.2.1 22 (by decide), E2.1 38 (by decide), E2.2.1 35 (by decide)]; exact r8
        · rw [k31.1 25 (by decide), k31.2.2.1 23 (by decide), E2.1 37 (by decide), E2.2.1 36 (by decide)]; exact r9
        · rw [k31.1 39 (by decide), k31.2.2.1 37 (by decide), E2.1 57 (by decide), E2.2.1 54 (by decide)]; exact r11
        · rw [k31.1 39 (by decide), k31.2.2.1 37 (by decide)]; exact r12
        · rw [k31.1 33 (by decide), k31.2.2.1 32 (by decide), E2.2.1 48 (by decide)]; exact r13
      simp (disch := omega) only [x_I1, x_I14, x_I18, x_I19, x_I2, x_I20, x_I24, x_I25, x_I3, x_I31, x_I33, x_I38, x_I39, x_R0, x_R10, x_R12, x_R13, x_R15, x_R16, x_R17, x_R21, x_R22, x_R23, x_R26, x_R27, x_R28, x_R29, x_R30, x_R32, x_R34, x_R35, x_R36, x_R37, x_R4, x_R40, x_R41, x_R43, x_R44, x_R45, x_R5, x_R6, x_R7, x_R8, x_R9, x_chk, x_chk15, x_chk7, x_w0I3, x_w0I4, x_w0I5, x_w0R1, x_w0R2, x_w1I3, x_w1I4, x_w1I5, x_w1R1, x_w1R2, x_sI1, x_sI14, x_sI18, x_sI19, x_sI2, x_sI20, x_sI24, x_sI25, x_sI3, x_sI31, x_sI33, x_sI38, x_sI39, x_sR11, x_sR42, x_w0sI3, x_w0sI4, x_w0sI5, x_w0sR, x_w1sI3, x_w1sI4, x_w1sI5, x_w1sR, x_A1n, x_sA1n, x_A13n, x_sA13n, x_A14n, x_sA14n, x_A21n, x_sA21n, x_A22n, x_sA22n, x_A27n, x_sA27n, x_A28n, x_sA28n, x_A29n, x_sA29n, x_A30n, x_sA30n, x_A31n, x_sA31n, x_A32n, x_sA32n, x_A33n, x_sA33n, x_A34n, x_sA34n, x_A35n, x_sA35n, x_A36n, x_sA36n, x_A37n, x_sA37n, x_A38n, x_sA38n, x_A39n, x_sA39n, x_A40n, x_sA40n, x_A41n, x_sA41n, x_A42n, x_sA42n, x_A43n, x_sA43n, evq_lv, evq_pure, lvM, m_hasn, m_isIn, m_one, m_isHang, x_w0R0e, x_R11e, x_w1R0e, Option.elim_some, Mo.bind_assoc, Mo.pure_bind, Mo.bind_pure, lit, nI_add, nI_mul, nI_subn, le_t, le_f, lt_t, lt_f, eq_t, eq_f, eqm_f, ltz_f, cond_true, cond_false, if_true, if_false, tq_I, tq_L, tq_sI, tq_sL, tq_lv, tq_pure, lvT, TM.bind_assoc, TM.pure_bind, TM.bind_pure, te_An, te_Bn, te_sAn, te_sBn, t_doors, t_hasn, t_isIn, t_of0, t_of1, t_of2, t_of3, t_of4, t_of5, t_of6, t_of7, lit, nI_add, nI_mul, nI_subn, le_t, le_f, lt_t, lt_f, eq_t, eq_f, eqm_f, ltz_f, cond_true, cond_false, if_true, if_false]
      refine Two.mk (show _ = some ((zI xs3 31 (nI L.length)).2.2.1 29 0, _) from Mo.bind_pure (aldI 0 (n + 36) _) ▸ x_A36n (by omega)) (show _ = some (m'.2.2.1 40 0, m') from TM.bind_pure (tA 40 1024 _) ▸ te_An (by omega) (by omega)) ⟨?_, F, g, _, by rw [hG], R5, by omega, by omega⟩
      rw [zI_2, x29, m40, hb0.1, hf0.1, bf0]
