set_option maxRecDepth 100000
/-! ===== the way back ===== -/
def dpF (par : Nat → Nat) : Nat → Nat → Nat
  | 0, _ => 0
  | f + 1, i => if i = 0 then 0 else dpF par f (par i) + 1
theorem dpF_eq {par : Nat → Nat} {N : Nat} (h : ∀ i, 1 ≤ i → i < N → par i < i) : ∀ i f f', i < N → i ≤ f → i ≤ f' → dpF par f i = dpF par f' i := by
  intro i
  induction i using Nat.strongRecOn with
  | ind i ih =>
    intro f f' hi h1 h2
    by_cases z : i = 0
    · subst z
      cases f <;> cases f' <;> simp [dpF]
    · obtain ⟨f, rfl⟩ : ∃ k, f = k + 1 := ⟨f - 1, by omega⟩
      obtain ⟨f', rfl⟩ : ∃ k, f' = k + 1 := ⟨f' - 1, by omega⟩
      have hp := h i (by omega) hi
      unfold dpF
      rw [if_neg z, if_neg z, ih (par i) hp f f' (by omega) (by omega) (by omega)]
def dp (par : Nat → Nat) (i : Nat) : Nat := dpF par i i
theorem dp_0 (par : Nat → Nat) : dp par 0 = 0 := rfl
theorem dp_s {par : Nat → Nat} {N : Nat} (h : ∀ i, 1 ≤ i → i < N → par i < i) {i : Nat} (h1 : 1 ≤ i) (hi : i < N) : dp par i = dp par (par i) + 1 := by
  have hp := h i h1 hi
  obtain ⟨k, rfl⟩ : ∃ k, i = k + 1 := ⟨i - 1, by omega⟩
  unfold dp
  show dpF par (k + 1) (k + 1) = _
  conv => lhs; unfold dpF
  rw [if_neg (by omega), dpF_eq h (par (k + 1)) k (par (k + 1)) (by omega) (by omega) (by omega)]
theorem dp_le {par : Nat → Nat} {N : Nat} (h : ∀ i, 1 ≤ i → i < N → par i < i) : ∀ i, i < N → dp par i ≤ i := by
  intro i
  induction i using Nat.strongRecOn with
  | ind i ih =>
    intro hi
    by_cases z : i = 0
    · subst z; exact Nat.zero_le _
    · have hp := h i (by omega) hi
      rw [dp_s h (by omega) hi]
      have := ih (par i) hp (by omega)
      omega
theorem neg40 : -nI 4 < nI 0 := by decide
section
variable {n : Nat} {G : gH} {r : Row}
theorem Bfs.par {N : Nat} {q par bya : Nat → Nat} {xs : XS} {m : MS} (b : Bfs r N q par bya xs m) : ∀ i, 1 ≤ i → i < N → par i < i := fun i h1 h2 => (b.2.2.2.2.2.2.2 i h1 h2).1
/-- how many minutes it is -/
theorem cnt_two {N : Nat} {q par bya : Nat → Nat} {xs : XS} {m : MS} (b : Bfs r N q par bya xs m) {i : Nat} (hi : i < N) : Two ((Mo.loop (S := Int32 × Int32) (E := Int32) (fun s13 => Mo.bind (gR [0] n 34) (fun v17 => Mo.bind (aldI 0 v17 s13.2) (fun v18 => if v18 = s13.2 then Mo.pure (Sum.inr s13.1) else Mo.lv (s13.1 + 1) (fun v19 => Mo.bind (gR [0] n 34) (fun v20 => Mo.bind (aldI 0 v20 s13.2) (fun v21 => Mo.pure (Sum.inl (v19, v21)))))))) (0, nI (q i))).1 (mkX n G xs)) (TM.loop (S := Int32 × Int32) (E := Int32) (fun s3 => TM.bind (tA 52 24300 s3.2) (fun v7 => if v7 < 0 then TM.pure (Sum.inr s3.1) else TM.lv (s3.1 + 1) (fun v8 => TM.bind (tA 51 24300 s3.2) (fun v9 => TM.pure (Sum.inl (v8, v9)))))) (0, nI (q i)) m) (fun v h' v' m' => v = nI (dp par i) ∧ v' = nI (dp par i) ∧ h' = mkX n G xs ∧ m' = m) := by
  have hp := b.par
  have hN := b.le
  obtain ⟨b1, b2, b3, b4, b5, b6, b7, b8⟩ := b
  refine Two.loop (S := Int32 × Int32) (T := Int32 × Int32) (fun k s h' t m' => ∃ c, k < N ∧ c + dp par k = dp par i ∧ s = (nI c, nI (q k)) ∧ t = (nI c, nI (q k)) ∧ h' = mkX n G xs ∧ m' = m) (fun k s h' t m' hI => ?_) i _ _ _ _ ⟨0, hi, by omega, rfl, rfl, rfl, rfl⟩
  obtain ⟨c, hk, hc, rfl, rfl, rfl, rfl⟩ := hI
  have qk := (b4 k hk).2.1
  dsimp only
  by_cases z : k = 0
  · subst z
    rw [dp_0] at hc
    simp (disch := omega) only [x_I1, x_I14, x_I18, x_I19, x_I2, x_I20, x_I24, x_I25, x_I3, x_I31, x_I33, x_I38, x_I39, x_R0, x_R10, x_R12, x_R13, x_R15, x_R16, x_R17, x_R21, x_R22, x_R23, x_R26, x_R27, x_R28, x_R29, x_R30, x_R32, x_R34, x_R35, x_R36, x_R37, x_R4, x_R40, x_R41, x_R43, x_R44, x_R45, x_R5, x_R6, x_R7, x_R8, x_R9, x_chk, x_chk15, x_chk7, x_w0I3, x_w0I4, x_w0I5, x_w0R1, x_w0R2, x_w1I3, x_w1I4, x_w1I5, x_w1R1, x_w1R2, x_sI1, x_sI14, x_sI18, x_sI19, x_sI2, x_sI20, x_sI24, x_sI25, x_sI3, x_sI31, x_sI33, x_sI38, x_sI39, x_sR11, x_sR42, x_w0sI3, x_w0sI4, x_w0sI5, x_w0sR, x_w1sI3, x_w1sI4, x_w1sI5, x_w1sR, x_A1n, x_sA1n, x_A13n, x_sA13n, x_A14n, x_sA14n, x_A21n, x_sA21n, x_A22n, x_sA22n, x_A27n, x_sA27n, x_A28n, x_sA28n, x_A29n, x_sA29n, x_A30n, x_sA30n, x_A31n, x_sA31n, x_A32n, x_sA32n, x_A33n, x_sA33n, x_A34n, x_sA34n, x_A35n, x_sA35n, x_A36n, x_sA36n, x_A37n, x_sA37n, x_A38n, x_sA38n, x_A39n, x_sA39n, x_A40n, x_sA40n, x_A41n, x_sA41n, x_A42n, x_sA42n, x_A43n, x_sA43n, evq_lv, evq_pure, lvM, m_hasn, m_isIn, m_one, m_isHang, x_w0R0e, x_R11e, x_w1R0e, Option.elim_some, Mo.bind_assoc, Mo.pure_bind, Mo.bind_pure, lit, nI_add, nI_mul, nI_subn, le_t, le_f, lt_t, lt_f, eq_t, eq_f, eqm_f, ltz_f, cond_true, cond_false, if_true, if_false, tq_I, tq_L, tq_sI, tq_sL, tq_lv, tq_pure, lvT, TM.bind_assoc, TM.pure_bind, TM.bind_pure, te_An, te_Bn, te_sAn, te_sBn, t_doors, t_hasn, t_isIn, t_of0, t_of1, t_of2, t_of3, t_of4, t_of5, t_of6, t_of7, lit, nI_add, nI_mul, nI_subn, le_t, le_f, lt_t, lt_f, eq_t, eq_f, eqm_f, ltz_f, cond_true, cond_false, if_true, if_false, b7.1, b7.2, if_pos neg40, if_pos]
    exact Two.pp ⟨by rw [← hc]; rfl, by rw [← hc]; rfl, rfl, rfl⟩
  · obtain ⟨z1, z2, z3, z4, z5, z6⟩ := b8 k (by omega) hk
    have ne := b5 (par k) k z1 hk
    have qp := (b4 (par k) (by omega)).2.1
    have ds := dp_s hp (show 1 ≤ k by omega) hk
    simp (disch := omega) only [x_I1, x_I14, x_I18, x_I19, x_I2, x_I20, x_I24, x_I25, x_I3, x_I31, x_I33, x_I38, x_I39, x_R0, x_R10, x_R12, x_R13, x_R15, x_R16, x_R17, x_R21, x_R22, x_R23, x_R26, x_R27, x_R28, x_R29, x_R30, x_R32, x_R34, x_R35, x_R36, x_R37, x_R4, x_R40, x_R41, x_R43, x_R44, x_R45, x_R5, x_R6, x_R7, x_R8, x_R9, x_chk, x_chk15, x_chk7, x_w0I3, x_w0I4, x_w0I5, x_w0R1, x_w0R2, x_w1I3, x_w1I4, x_w1I5, x_w1R1, x_w1R2, x_sI1, x_sI14, x_sI18, x_sI19, x_sI2, x_sI20, x_sI24, x_sI25, x_sI3, x_sI31, x_sI33, x_sI38, x_sI39, x_sR11, x_sR42, x_w0sI3, x_w0sI4, x_w0sI5, x_w0sR, x_w1sI3, x_w1sI4, x_w1sI5, x_w1sR, x_A1n, x_sA1n, x_A13n, x_sA13n, x_A14n, x_sA14n, x_A21n, x_sA21n, x_A22n, x_sA22n, x_A27n, x_sA27n, x_A28n, x_sA28n, x_A29n, x_sA29n, x_A30n, x_sA30n, x_A31n, x_sA31n, x_A32n, x_sA32n, x_A33n, x_sA33n, x_A34n, x_sA34n, x_A35n, x_sA35n, x_A36n, x_sA36n, x_A37n, x_sA37n, x_A38n, x_sA38n, x_A39n, x_sA39n, x_A40n, x_sA40n, x_A41n, x_sA41n, x_A42n, x_sA42n, x_A43n, x_sA43n, evq_lv, evq_pure, lvM, m_hasn, m_isIn, m_one, m_isHang, x_w0R0e, x_R11e, x_w1R0e, Option.elim_some, Mo.bind_assoc, Mo.pure_bind, Mo.bind_pure, lit, nI_add, nI_mul, nI_subn, le_t, le_f, lt_t, lt_f, eq_t, eq_f, eqm_f, ltz_f, cond_true, cond_false, if_true, if_false, tq_I, tq_L, tq_sI, tq_sL, tq_lv, tq_pure, lvT, TM.bind_assoc, TM.pure_bind, TM.bind_pure, te_An, te_Bn, te_sAn, te_sBn, t_doors, t_hasn, t_isIn, t_of0, t_of1, t_of2, t_of3, t_of4, t_of5, t_of6, t_of7, lit, nI_add, nI_mul, nI_subn, le_t, le_f, lt_t, lt_f, eq_t, eq_f, eqm_f, ltz_f, cond_true, cond_false, if_true, if_false, z3, z6, z5]
    exact Two.pp ⟨par k, z1, c + 1, by omega, by omega, rfl, rfl, rfl, rfl⟩
/-- which acts -/
theorem fill_two {N : Nat} {q par bya : Nat → Nat} {xs : XS} {m : MS} (b : Bfs r N q par bya xs m) {i : Nat} (hi : i < N) : Two ((Mo.loop (S := Int32 × Int32) (E := Unit) (fun s22 => Mo.bind (gR [0] n 34) (fun v26 => Mo.bind (aldI 0 v26 s22.2) (fun v27 => if v27 = s22.2 then Mo.pure (Sum.inr ()) else Mo.lv (s22.1 + (-1)) (fun v28 => Mo.bind (gR [0] n 37) (fun v29 => Mo.bind (gR [0] n 35) (fun v30 => Mo.bind (aldI 0 v30 s22.2) (fun v31 => Mo.bind (astI 0 v29 v28 v31) (fun _ => Mo.bind (gR [0] n 34) (fun v32 => Mo.bind (aldI 0 v32 s22.2) (fun v33 => Mo.pure (Sum.inl (v28, v33)))))))))))) (nI (dp par i), nI (q i))).1 (mkX n G xs)) (TM.loop (S := Int32 × Int32) (E := Unit) (fun s10 => TM.bind (tA 52 24300 s10.2) (fun v14 => if v14 < 0 then TM.pure (Sum.inr ()) else TM.lv (s10.1 + (-1)) (fun v15 => TM.bind (tA 52 24300 s10.2) (fun v16 => TM.bind (sA 53 24300 v15 v16) (fun _ => TM.bind (tA 51 24300 s10.2) (fun v17 => TM.pure (Sum.inl (v15, v17)))))))) (nI (dp par i), nI (q i)) m) (fun _ h' _ m' => ∃ xs', h' = mkX n G xs' ∧ sameX [] [37] xs xs' ∧ sameB [] [53] [] m m' ∧ ∀ t, t < dp par i → ∃ a, a < 14 ∧ xs'.2.2.1 37 t = nI a ∧ m'.2.2.1 53 t = nI a) := by
  have hp := b.par
  have hN := b.le
  have hdi := dp_le hp i hi
  refine Two.loop (S := Int32 × Int32) (T := Int32 × Int32) (fun k s h' t m' => ∃ xs', k < N ∧ dp par k ≤ dp par i ∧ s = (nI (dp par k), nI (q k)) ∧ t = (nI (dp par k), nI (q k)) ∧ h' = mkX n G xs' ∧ sameX [] [37] xs xs' ∧ sameB [] [53] [] m m' ∧ ∀ t, dp par k ≤ t → t < dp par i → ∃ a, a < 14 ∧ xs'.2.2.1 37 t = nI a ∧ m'.2.2.1 53 t = nI a) (fun k s h' t m' hI => ?_) i _ _ _ _ ⟨xs, hi, Nat.le_refl _, rfl, rfl, rfl, sameX.rf, sameB.rf, fun t h1 h2 => by omega⟩
  obtain ⟨xs1, hk, hdk, rfl, rfl, rfl, S, B, hf⟩ := hI
  have b' : Bfs r N q par bya xs1 m' := b.keep (S.1 38 (by decide)) (fun k hk => S.2.2.1 k (fun z => by simp at z; subst z; exact absurd hk (by decide))) (B.1 55 (by decide)) (fun k hk => B.2.1 k (fun z => by simp at z; subst z; exact absurd hk (by decide)))
  obtain ⟨b1, b2, b3, b4, b5, b6, b7, b8⟩ := b'
  have qk := (b4 k hk).2.1
  dsimp only
  by_cases z : k = 0
  · subst z
    simp (disch := omega) only [x_I1, x_I14, x_I18, x_I19, x_I2, x_I20, x_I24, x_I25, x_I3, x_I31, x_I33, x_I38, x_I39, x_R0, x_R10, x_R12, x_R13, x_R15, x_R16, x_R17, x_R21, x_R22, x_R23, x_R26, x_R27, x_R28, x_R29, x_R30, x_R32, x_R34, x_R35, x_R36, x_R37, x_R4, x_R40, x_R41, x_R43, x_R44, x_R45, x_R5, x_R6, x_R7, x_R8, x_R9, x_chk, x_chk15, x_chk7, x_w0I3, x_w0I4, x_w0I5, x_w0R1, x_w0R2, x_w1I3, x_w1I4, x_w1I5, x_w1R1, x_w1R2, x_sI1, x_sI14, x_sI18, x_sI19, x_sI2, x_sI20, x_sI24, x_sI25, x_sI3, x_sI31, x_sI33, x_sI38, x_sI39, x_sR11, x_sR42, x_w0sI3, x_w0sI4, x_w0sI5, x_w0sR, x_w1sI3, x_w1sI4, x_w1sI5, x_w1sR, x_A1n, x_sA1n, x_A13n, x_sA13n, x_A14n, x_sA14n, x_A21n, x_sA21n, x_A22n, x_sA22n, x_A27n, x_sA27n, x_A28n, x_sA28n, x_A29n, x_sA29n, x_A30n, x_sA30n, x_A31n, x_sA31n, x_A32n, x_sA32n, x_A33n, x_sA33n, x_A34n, x_sA34n, x_A35n, x_sA35n, x_A36n, x_sA36n, x_A37n, x_sA37n, x_A38n, x_sA38n, x_A39n, x_sA39n, x_A40n, x_sA40n, x_A41n, x_sA41n, x_A42n, x_sA42n, x_A43n, x_sA43n, evq_lv, evq_pure, lvM, m_hasn, m_isIn, m_one, m_isHang, x_w0R0e, x_R11e, x_w1R0e, Option.elim_some, Mo.bind_assoc, Mo.pure_bind, Mo.bind_pure, lit, nI_add, nI_mul, nI_subn, le_t, le_f, lt_t, lt_f, eq_t, eq_f, eqm_f, ltz_f, cond_true, cond_false, if_true, if_false, tq_I, tq_L, tq_sI, tq_sL, tq_lv, tq_pure, lvT, TM.bind_assoc, TM.pure_bind, TM.bind_pure, te_An, te_Bn, te_sAn, te_sBn, t_doors, t_hasn, t_isIn, t_of0, t_of1, t_of2, t_of3, t_of4, t_of5, t_of6, t_of7, lit, nI_add, nI_mul, nI_subn, le_t, le_f, lt_t, lt_f, eq_t, eq_f, eqm_f, ltz_f, cond_true, cond_false, if_true, if_false, b7.1, b7.2, if_pos neg40, if_pos]
    exact Two.pp ⟨xs1, rfl, S, B, fun t ht => hf t (by rw [dp_0]; omega) ht⟩
  · obtain ⟨z1, z2, z3, z4, z5, z6⟩ := b8 k (by omega) hk
    have ne := b5 (par k) k z1 hk
    have qp := (b4 (par k) (by omega)).2.1
    have ds := dp_s hp (show 1 ≤ k by omega) hk
    rw [ds]
    have hps : nI (dp par (par k) + 1) + -nI 1 = nI (dp par (par k)) := by rw [pos_1]; rfl
    simp (disch := omega) only [x_I1, x_I14, x_I18, x_I19, x_I2, x_I20, x_I24, x_I25, x_I3, x_I31, x_I33, x_I38, x_I39, x_R0, x_R10, x_R12, x_R13, x_R15, x_R16, x_R17, x_R21, x_R22, x_R23, x_R26, x_R27, x_R28, x_R29, x_R30, x_R32, x_R34, x_R35, x_R36, x_R37, x_R4, x_R40, x_R41, x_R43, x_R44, x_R45, x_R5, x_R6, x_R7, x_R8, x_R9, x_chk, x_chk15, x_chk7, x_w0I3, x_w0I4, x_w0I5, x_w0R1, x_w0R2, x_w1I3, x_w1I4, x_w1I5, x_w1R1, x_w1R2, x_sI1, x_sI14, x_sI18, x_sI19, x_sI2, x_sI20, x_sI24, x_sI25, x_sI3, x_sI31, x_sI33, x_sI38, x_sI39, x_sR11, x_sR42, x_w0sI3, x_w0sI4, x_w0sI5, x_w0sR, x_w1sI3, x_w1sI4, x_w1sI5, x_w1sR, x_A1n, x_sA1n, x_A13n, x_sA13n, x_A14n, x_sA14n, x_A21n, x_sA21n, x_A22n, x_sA22n, x_A27n, x_sA27n, x_A28n, x_sA28n, x_A29n, x_sA29n, x_A30n, x_sA30n, x_A31n, x_sA31n, x_A32n, x_sA32n, x_A33n, x_sA33n, x_A34n, x_sA34n, x_A35n, x_sA35n, x_A36n, x_sA36n, x_A37n, x_sA37n, x_A38n, x_sA38n, x_A39n, x_sA39n, x_A40n, x_sA40n, x_A41n, x_sA41n, x_A42n, x_sA42n, x_A43n, x_sA43n, evq_lv, evq_pure, lvM, m_hasn, m_isIn, m_one, m_isHang, x_w0R0e, x_R11e, x_w1R0e, Option.elim_some, Mo.bind_assoc, Mo.pure_bind, Mo.bind_pure, lit, nI_add, nI_mul, nI_subn, le_t, le_f, lt_t, lt_f, eq_t, eq_f, eqm_f, ltz_f, cond_true, cond_false, if_true, if_false, tq_I, tq_L, tq_sI, tq_sL, tq_lv, tq_pure, lvT, TM.bind_assoc, TM.pure_bind, TM.bind_pure, te_An, te_Bn, te_sAn, te_sBn, t_doors, t_hasn, t_isIn, t_of0, t_of1, t_of2, t_of3, t_of4, t_of5, t_of6, t_of7, lit, nI_add, nI_mul, nI_subn, le_t, le_f, lt_t, lt_f, eq_t, eq_f, eqm_f, ltz_f, cond_true, cond_false, if_true, if_false, uI_1, uI_2, uA_1, uA_21, uA_22, uA_3, uB_1, uB_21, uB_22, uB_3, uL_1, uL_21, uL_22, zI_1, zI_2, zR_1, zR_21, zR_22, zA_1, zA_21, zA_221, zA_222, zAA_1, zAA_21, zAA_221, zAA_222, zW_1, zW_21, zW_221, zW_2221, zW_2222, zL_1, zL_21, zL_221, zL_2221, zL_22221, zL_22222, va_eq, va_ne, z3, z6, z5, z4, hps]
    refine Two.pp ⟨par k, z1, _, by omega, by omega, rfl, rfl, rfl, S.zA (by decide), B.uA (by decide), fun t h1 h2 => ?_⟩
    simp (disch := omega) only [uI_1, uI_2, uA_1, uA_21, uA_22, uA_3, uB_1, uB_21, uB_22, uB_3, uL_1, uL_21, uL_22, zI_1, zI_2, zR_1, zR_21, zR_22, zA_1, zA_21, zA_221, zA_222, zAA_1, zAA_21, zAA_221, zAA_222, zW_1, zW_21, zW_221, zW_2221, zW_2222, zL_1, zL_21, zL_221, zL_2221, zL_22221, zL_22222, va_eq, va_ne]
    by_cases y : t = dp par (par k)
    · rw [y, va_eq, va_eq]; exact ⟨bya k, z2, rfl, rfl⟩
    · rw [va_ne y, va_ne y]; exact hf t (by omega) h2
end
