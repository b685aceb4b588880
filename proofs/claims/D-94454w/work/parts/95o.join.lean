set_option maxRecDepth 100000
theorem x_cpyM {ax : Nat} {g : gH} {xs : XS} {β : Type} {f : Unit → Mo β} : (Mo.bind (cpyI (ax + 13) (nI 0) (ax + 35) (nI 0) (nI 10)) f).1 (mkX ax g xs) = (f ()).1 (mkX ax g (zAA xs 28 (va_cpy (xs.2.2.1 200) (xs.2.2.1 28) 0 0 10))) := by
  have e : (cpyI (ax + 13) (nI 0) (ax + 35) (nI 0) (nI 10)).1 (mkX ax g xs) = some ((), (va_up (mkX ax g xs).1 (ax + 35) (.inl (0, 10, .inl (va_cpy (xs.2.2.1 200) (xs.2.2.1 28) 0 0 10))), (mkX ax g xs).2)) := by
    unfold cpyI Mo.wr
    simp only [x_at13, x_at35]
    rfl
  rw [ev_call e]
  exact congrArg (f ()).1 (mkX_up (o := 35) (fun d => rfl) (fun d o' ho => by unfold xCell; split <;> first | rfl | exact absurd rfl ho))
theorem pow_le_1024 {k : Nat} (h : k ≤ 10) : 2 ^ k ≤ 1024 := Nat.pow_le_pow_right (i := k) (j := 10) (by decide) h
theorem maxI {a b : Nat} (ha : a < 2 ^ 31) (hb : b < 2 ^ 31) : (if nI a < nI b then nI b else nI a) = nI (max a b) := by
  by_cases h : a < b
  · rw [lt_t h hb, Nat.max_eq_right (by omega)]
  · rw [lt_f (by omega) ha, Nat.max_eq_left (by omega)]
/-- the least so far, of those below j -/
def minSo (b0 : Nat) (P : Nat → Prop) (f : Nat → Nat) (j u : Nat) : Prop := (∀ i, i < j → P i → u ≤ f i) ∧ ((u = b0 ∧ ∀ i, i < j → ¬ P i) ∨ ∃ i, i < j ∧ P i ∧ u = f i)
theorem minSo.skip {b0 : Nat} {P : Nat → Prop} {f : Nat → Nat} {j u : Nat} (h : minSo b0 P f j u) (hp : ¬ P j) : minSo b0 P f (j + 1) u := by
  obtain ⟨h1, h2⟩ := h
  have q : ∀ i, i < j + 1 → P i → i < j := fun i hi hpi => by
    rcases Nat.lt_or_ge i j with z | z
    · exact z
    · exact absurd (show i = j by omega) (fun e => hp (e ▸ hpi))
  refine ⟨fun i hi hpi => h1 i (q i hi hpi) hpi, ?_⟩
  rcases h2 with ⟨h3, h4⟩ | ⟨i, h3, h4, h5⟩
  · exact Or.inl ⟨h3, fun i hi hpi => h4 i (q i hi hpi) hpi⟩
  · exact Or.inr ⟨i, by omega, h4, h5⟩
theorem minSo.take {b0 : Nat} {P : Nat → Prop} {f : Nat → Nat} {j u : Nat} (h : minSo b0 P f j u) (hp : P j) (hb : f j ≤ b0) (hu : u ≤ b0) : minSo b0 P f (j + 1) (min u (f j)) := by
  obtain ⟨h1, h2⟩ := h
  refine ⟨fun i hi hpi => ?_, ?_⟩
  · rcases Nat.lt_or_ge i j with z | z
    · have := h1 i z hpi; omega
    · have : i = j := by omega
      subst this; omega
  · rcases Nat.lt_or_ge (f j) u with z | z
    · exact Or.inr ⟨j, by omega, hp, by omega⟩
    · rcases h2 with ⟨h3, h4⟩ | ⟨i, h3, h4, h5⟩
      · exact Or.inr ⟨j, by omega, hp, by omega⟩
      · exact Or.inr ⟨i, by omega, h4, by omega⟩
theorem minSo.le {b0 : Nat} {P : Nat → Prop} {f : Nat → Nat} {j u : Nat} (h : minSo b0 P f j u) (hf : ∀ i, P i → f i ≤ b0) : u ≤ b0 := by
  rcases h.2 with ⟨h3, -⟩ | ⟨i, -, h4, h5⟩
  · omega
  · have := hf i h4; omega
section
variable {n : Nat} {F : Fz} {G : gH} {ho : Nat} {r : Row} {nm : Nat → Int64} {B : Nat → Nat}
/-- the class's table -/
def TabC (r : Row) (B : Nat → Nat) (xs : XS) (k : Nat) : Prop := ∃ b : Nat → Nat, ∀ t, k ≤ t → t < 2 ^ (chF r B (rN r 2)).length → xs.2.2.1 29 t = nI (b t) ∧ b t ≤ 100 ∧ okC r B (chF r B (rN r 2)) b t
set_option maxHeartbeats 4000000 in
theorem tabC_turn (Z : FrzX n F G) (H : IsHouse F ho r nm) (ok : okRow r) {xs : XS} (e1 : xs.2.1 200 = some ho) (hhg : ∀ d, d < rN r 2 → xs.2.2.1 200 d = nI (hgN r d)) (hB : ∀ d, d < rN r 2 → xs.2.2.1 17 d = nI (B d) ∧ B d < 4) (hC : ∀ k, k < (chF r B (rN r 2)).length → xs.2.2.1 26 k = nI ((chF r B (rN r 2)).getD k 0)) {t : Nat} (ht : t < 2 ^ (chF r B (rN r 2)).length) (hT : TabC r B xs (t + 1)) :
    Ok ((Mo.bind (gR [0] n 9) (fun v23 => Mo.bind (gR [2] v23 1) (fun v24 => Mo.bind (gR [0] n 28) (fun v25 => Mo.bind (cpyI v24 (nI 0) v25 (nI 0) (nI 10)) (fun _ => Mo.bind (Mo.loop (S := Int32) (E := Unit) (fun s26 => if nI (chF r B (rN r 2)).length ≤ s26 then Mo.pure (Sum.inr ()) else Mo.bind (M_X1_has (nI t) s26) (fun v30 => Mo.bind ((cond v30 (Mo.bind (gR [0] n 28) (fun v33 => Mo.bind (gR [0] n 26) (fun v34 => Mo.bind (aldI 0 v34 s26) (fun v35 => Mo.bind (gR [0] n 17) (fun v36 => Mo.bind (gR [0] n 26) (fun v37 => Mo.bind (aldI 0 v37 s26) (fun v38 => Mo.bind (aldI 0 v36 v38) (fun v39 => Mo.bind (astI 0 v33 v35 v39) (fun _ => Mo.pure ()))))))))) (Mo.pure ()) : Mo (Unit))) (fun u31 => Mo.lv (s26 + nI 1) (fun v32 => Mo.pure (Sum.inl v32))))) (nI 0)) (fun e29 => Mo.bind (gR [0] n 30) (fun v40 => Mo.bind (gR [0] n 28) (fun v41 => Mo.bind (M_X1_pairs n v41) (fun v42 => Mo.bind (astI 0 v40 (nI t) v42) (fun _ => Mo.bind ((if nI t = nI (2 ^ (chF r B (rN r 2)).length - 1) then Mo.pure (nI 0) else Mo.pure (nI 1000000000) : Mo (Int32))) (fun u43 => Mo.bind (Mo.loop (S := Int32 × Int32) (E := Int32) (fun s44 => if nI (chF r B (rN r 2)).length ≤ s44.2 then Mo.pure (Sum.inr s44.1) else Mo.bind (M_X1_has (nI t) s44.2) (fun v48 => Mo.bind ((cond v48 (Mo.pure s44.1) (Mo.bind (gR [0] n 29) (fun v51 => Mo.bind (M_X1_one s44.2) (fun v52 => Mo.bind (aldI 0 v51 (nI t ||| v52)) (fun v53 => Mo.lv (if v53 < s44.1 then v53 else s44.1) (fun v54 => Mo.pure v54))))) : Mo (Int32))) (fun u49 => Mo.lv (s44.2 + nI 1) (fun v50 => Mo.pure (Sum.inl (u49, v50)))))) (u43, nI 0)) (fun e47 => Mo.bind (gR [0] n 29) (fun v55 => Mo.bind (gR [0] n 30) (fun v56 => Mo.bind (aldI 0 v56 (nI t)) (fun v57 => Mo.bind (astI 0 v55 (nI t) (if v57 < e47 then e47 else v57)) (fun _ => Mo.pure ())))))))))))))))).1 (mkX n G xs)) (fun _ h' => ∃ xs', h' = mkX n G xs' ∧ sameX [] [28, 29, 30] xs xs' ∧ TabC r B xs' t) := by
  have hm := ok.2.2.1.2
  have hlen := chF_len r B (rN r 2)
  have hup := chF_up r B (rN r 2)
  have hlt : ∀ k, k < (chF r B (rN r 2)).length → (chF r B (rN r 2)).getD k 0 < rN r 2 := fun k hk => chF_lt (getD_mem hk)
  generalize hL : chF r B (rN r 2) = L at *
  have hp10 := pow_le_1024 (k := L.length) (by omega)
  have h1p : 1 ≤ 2 ^ L.length := Nat.one_le_two_pow
  have orl : ∀ {j}, j < L.length → t ||| 2 ^ j < 2 ^ L.length := fun {j} hj => Nat.or_lt_two_pow ht (Nat.pow_lt_pow_right (by decide) hj)
  generalize hT2 : 2 ^ L.length = T at ht hp10 h1p orl
  simp (disch := omega) only [x_I1, x_I14, x_I18, x_I19, x_I2, x_I20, x_I24, x_I25, x_I3, x_I31, x_I33, x_I38, x_I39, x_R0, x_R10, x_R12, x_R13, x_R15, x_R16, x_R17, x_R21, x_R22, x_R23, x_R26, x_R27, x_R28, x_R29, x_R30, x_R32, x_R34, x_R35, x_R36, x_R37, x_R4, x_R40, x_R41, x_R43, x_R44, x_R45, x_R5, x_R6, x_R7, x_R8, x_R9, x_chk, x_chk15, x_chk7, x_w0I3, x_w0I4, x_w0I5, x_w0R1, x_w0R2, x_w1I3, x_w1I4, x_w1I5, x_w1R1, x_w1R2, x_sI1, x_sI14, x_sI18, x_sI19, x_sI2, x_sI20, x_sI24, x_sI25, x_sI3, x_sI31, x_sI33, x_sI38, x_sI39, x_sR11, x_sR42, x_w0sI3, x_w0sI4, x_w0sI5, x_w0sR, x_w1sI3, x_w1sI4, x_w1sI5, x_w1sR, x_A1n, x_sA1n, x_A13n, x_sA13n, x_A14n, x_sA14n, x_A21n, x_sA21n, x_A22n, x_sA22n, x_A27n, x_sA27n, x_A28n, x_sA28n, x_A29n, x_sA29n, x_A30n, x_sA30n, x_A31n, x_sA31n, x_A32n, x_sA32n, x_A33n, x_sA33n, x_A34n, x_sA34n, x_A35n, x_sA35n, x_A36n, x_sA36n, x_A37n, x_sA37n, x_A38n, x_sA38n, x_A39n, x_sA39n, x_A40n, x_sA40n, x_A41n, x_sA41n, x_A42n, x_sA42n, x_A43n, x_sA43n, evq_lv, evq_pure, lvM, m_hasn, m_isIn, m_one, m_isHang, x_w0R0e, x_R11e, x_w1R0e, Option.elim_some, Mo.bind_assoc, Mo.pure_bind, Mo.bind_pure, lit, nI_add, nI_mul, nI_subn, le_t, le_f, lt_t, lt_f, eq_t, eq_f, eqm_f, ltz_f, cond_true, cond_false, if_true, if_false, x_cpyM]
  refine Ok.bM (P := fun _ h' => ∃ xs', h' = mkX n G xs' ∧ sameX [] [28, 29, 30] xs xs' ∧ xs'.2.2.1 29 = xs.2.2.1 29 ∧ ∀ d, d < rN r 2 → xs'.2.2.1 28 d = nI (hangS r B (expS L t) d)) ?_ (fun _ h' ⟨xs1, q1, S1, t1, l1⟩ => ?_)
  · refine Ok.forMs (S := Int32) (fun i => nI i) L.length (fun j h' => ∃ xs', h' = mkX n G xs' ∧ sameX [] [28, 29, 30] xs xs' ∧ xs'.2.2.1 29 = xs.2.2.1 29 ∧ (∀ d, d < rN r 2 → (∀ k, k < j → t.testBit k = true → L.getD k 0 ≠ d) → xs'.2.2.1 28 d = nI (hgN r d)) ∧ ∀ k, k < j → t.testBit k = true → xs'.2.2.1 28 (L.getD k 0) = nI (B (L.getD k 0))) (i := 0) rfl (by omega) ⟨_, rfl, sameX.rf.zAA (by decide), by simp (disch := omega) only [uI_1, uI_2, uA_1, uA_21, uA_22, uA_3, uB_1, uB_21, uB_22, uB_3, uL_1, uL_21, uL_22, zI_1, zI_2, zR_1, zR_21, zR_22, zA_1, zA_21, zA_221, zA_222, zAA_1, zAA_21, zAA_221, zAA_222, zW_1, zW_21, zW_221, zW_2221, zW_2222, zL_1, zL_21, zL_221, zL_2221, zL_22221, zL_22222, va_eq, va_ne], fun d hd _ => ?_, fun k hk => by omega⟩ (fun j h' hj hI => ?_) (fun h' hI => ?_)
    · simp (disch := omega) only [uI_1, uI_2, uA_1, uA_21, uA_22, uA_3, uB_1, uB_21, uB_22, uB_3, uL_1, uL_21, uL_22, zI_1, zI_2, zR_1, zR_21, zR_22, zA_1, zA_21, zA_221, zA_222, zAA_1, zAA_21, zAA_221, zAA_222, zW_1, zW_21, zW_221, zW_2221, zW_2222, zL_1, zL_21, zL_221, zL_2221, zL_22221, zL_22222, va_eq, va_ne]; rw [cpy10 (by omega)]; exact hhg d hd
    · obtain ⟨xs1, rfl, S1, t1, l1, l2⟩ := hI
      have hN := hasN t (by omega) j (by omega)
      have hc := hlt j hj
      have x26 : xs1.2.2.1 26 j = nI (L.getD j 0) := by rw [S1.2.2.1 26 (by decide)]; exact hC j hj
      have x17 : xs1.2.2.1 17 (L.getD j 0) = nI (B (L.getD j 0)) := by rw [S1.2.2.1 17 (by decide)]; exact (hB _ hc).1
      simp (disch := omega) only [x_I1, x_I14, x_I18, x_I19, x_I2, x_I20, x_I24, x_I25, x_I3, x_I31, x_I33, x_I38, x_I39, x_R0, x_R10, x_R12, x_R13, x_R15, x_R16, x_R17, x_R21, x_R22, x_R23, x_R26, x_R27, x_R28, x_R29, x_R30, x_R32, x_R34, x_R35, x_R36, x_R37, x_R4, x_R40, x_R41, x_R43, x_R44, x_R45, x_R5, x_R6, x_R7, x_R8, x_R9, x_chk, x_chk15, x_chk7, x_w0I3, x_w0I4, x_w0I5, x_w0R1, x_w0R2, x_w1I3, x_w1I4, x_w1I5, x_w1R1, x_w1R2, x_sI1, x_sI14, x_sI18, x_sI19, x_sI2, x_sI20, x_sI24, x_sI25, x_sI3, x_sI31, x_sI33, x_sI38, x_sI39, x_sR11, x_sR42, x_w0sI3, x_w0sI4, x_w0sI5, x_w0sR, x_w1sI3, x_w1sI4, x_w1sI5, x_w1sR, x_A1n, x_sA1n, x_A13n, x_sA13n, x_A14n, x_sA14n, x_A21n, x_sA21n, x_A22n, x_sA22n, x_A27n, x_sA27n, x_A28n, x_sA28n, x_A29n, x_sA29n, x_A30n, x_sA30n, x_A31n, x_sA31n, x_A32n, x_sA32n, x_A33n, x_sA33n, x_A34n, x_sA34n, x_A35n, x_sA35n, x_A36n, x_sA36n, x_A37n, x_sA37n, x_A38n, x_sA38n, x_A39n, x_sA39n, x_A40n, x_sA40n, x_A41n, x_sA41n, x_A42n, x_sA42n, x_A43n, x_sA43n, evq_lv, evq_pure, lvM, m_hasn, m_isIn, m_one, m_isHang, x_w0R0e, x_R11e, x_w1R0e, Option.elim_some, Mo.bind_assoc, Mo.pure_bind, Mo.bind_pure, lit, nI_add, nI_mul, nI_subn, le_t, le_f, lt_t, lt_f, eq_t, eq_f, eqm_f, ltz_f, cond_true, cond_false, if_true, if_false, hN]
      cases hb : t.testBit j with
      | false =>
        simp (disch := omega) only [x_I1, x_I14, x_I18, x_I19, x_I2, x_I20, x_I24, x_I25, x_I3, x_I31, x_I33, x_I38, x_I39, x_R0, x_R10, x_R12, x_R13, x_R15, x_R16, x_R17, x_R21, x_R22, x_R23, x_R26, x_R27, x_R28, x_R29, x_R30, x_R32, x_R34, x_R35, x_R36, x_R37, x_R4, x_R40, x_R41, x_R43, x_R44, x_R45, x_R5, x_R6, x_R7, x_R8, x_R9, x_chk, x_chk15, x_chk7, x_w0I3, x_w0I4, x_w0I5, x_w0R1, x_w0R2, x_w1I3, x_w1I4, x_w1I5, x_w1R1, x_w1R2, x_sI1, x_sI14, x_sI18, x_sI19, x_sI2, x_sI20, x_sI24, x_sI25, x_sI3, x_sI31, x_sI33, x_sI38, x_sI39, x_sR11, x_sR42, x_w0sI3, x_w0sI4, x_w0sI5, x_w0sR, x_w1sI3, x_w1sI4, x_w1sI5, x_w1sR, x_A1n, x_sA1n, x_A13n, x_sA13n, x_A14n, x_sA14n, x_A21n, x_sA21n, x_A22n, x_sA22n, x_A27n, x_sA27n, x_A28n, x_sA28n, x_A29n, x_sA29n, x_A30n, x_sA30n, x_A31n, x_sA31n, x_A32n, x_sA32n, x_A33n, x_sA33n, x_A34n, x_sA34n, x_A35n, x_sA35n, x_A36n, x_sA36n, x_A37n, x_sA37n, x_A38n, x_sA38n, x_A39n, x_sA39n, x_A40n, x_sA40n, x_A41n, x_sA41n, x_A42n, x_sA42n, x_A43n, x_sA43n, evq_lv, evq_pure, lvM, m_hasn, m_isIn, m_one, m_isHang, x_w0R0e, x_R11e, x_w1R0e, Option.elim_some, Mo.bind_assoc, Mo.pure_bind, Mo.bind_pure, lit, nI_add, nI_mul, nI_subn, le_t, le_f, lt_t, lt_f, eq_t, eq_f, eqm_f, ltz_f, cond_true, cond_false, if_true, if_false]
        refine Ok.pM ⟨rfl, xs1, rfl, S1, t1, fun d hd h => l1 d hd (fun k hk hkt => h k (by omega) hkt), fun k hk hkt => ?_⟩
        by_cases z : k = j
        · rw [z, hb] at hkt; cases hkt
        · exact l2 k (by omega) hkt
      | true =>
        simp (disch := omega) only [x_I1, x_I14, x_I18, x_I19, x_I2, x_I20, x_I24, x_I25, x_I3, x_I31, x_I33, x_I38, x_I39, x_R0, x_R10, x_R12, x_R13, x_R15, x_R16, x_R17, x_R21, x_R22, x_R23, x_R26, x_R27, x_R28, x_R29, x_R30, x_R32, x_R34, x_R35, x_R36, x_R37, x_R4, x_R40, x_R41, x_R43, x_R44, x_R45, x_R5, x_R6, x_R7, x_R8, x_R9, x_chk, x_chk15, x_chk7, x_w0I3, x_w0I4, x_w0I5, x_w0R1, x_w0R2, x_w1I3, x_w1I4, x_w1I5, x_w1R1, x_w1R2, x_sI1, x_sI14, x_sI18, x_sI19, x_sI2, x_sI20, x_sI24, x_sI25, x_sI3, x_sI31, x_sI33, x_sI38, x_sI39, x_sR11, x_sR42, x_w0sI3, x_w0sI4, x_w0sI5, x_w0sR, x_w1sI3, x_w1sI4, x_w1sI5, x_w1sR, x_A1n, x_sA1n, x_A13n, x_sA13n, x_A14n, x_sA14n, x_A21n, x_sA21n, x_A22n, x_sA22n, x_A27n, x_sA27n, x_A28n, x_sA28n, x_A29n, x_sA29n, x_A30n, x_sA30n, x_A31n, x_sA31n, x_A32n, x_sA32n, x_A33n, x_sA33n, x_A34n, x_sA34n, x_A35n, x_sA35n, x_A36n, x_sA36n, x_A37n, x_sA37n, x_A38n, x_sA38n, x_A39n, x_sA39n, x_A40n, x_sA40n, x_A41n, x_sA41n, x_A42n, x_sA42n, x_A43n, x_sA43n, evq_lv, evq_pure, lvM, m_hasn, m_isIn, m_one, m_isHang, x_w0R0e, x_R11e, x_w1R0e, Option.elim_some, Mo.bind_assoc, Mo.pure_bind, Mo.bind_pure, lit, nI_add, nI_mul, nI_subn, le_t, le_f, lt_t, lt_f, eq_t, eq_f, eqm_f, ltz_f, cond_true, cond_false, if_true, if_false, x26, x17]
        refine Ok.pM ⟨rfl, _, rfl, S1.zA (by decide), by simp (disch := omega) only [uI_1, uI_2, uA_1, uA_21, uA_22, uA_3, uB_1, uB_21, uB_22, uB_3, uL_1, uL_21, uL_22, zI_1, zI_2, zR_1, zR_21, zR_22, zA_1, zA_21, zA_221, zA_222, zAA_1, zAA_21, zAA_221, zAA_222, zW_1, zW_21, zW_221, zW_2221, zW_2222, zL_1, zL_21, zL_221, zL_2221, zL_22221, zL_22222, va_eq, va_ne]; exact t1, fun d hd h => ?_, fun k hk hkt => ?_⟩
        · rw [zA_221, va_eq, va_ne (fun z => h j (by omega) hb z.symm)]
          exact l1 d hd (fun k hk hkt => h k (by omega) hkt)
        · rw [zA_221, va_eq]
          by_cases z : k = j
          · rw [z, va_eq]
          · rw [va_ne (fun y => z (getD_inj hup (by omega) hj y))]
            exact l2 k (by omega) hkt
    · obtain ⟨xs1, rfl, S1, t1, l1, l2⟩ := hI
      simp (disch := omega) only [x_I1, x_I14, x_I18, x_I19, x_I2, x_I20, x_I24, x_I25, x_I3, x_I31, x_I33, x_I38, x_I39, x_R0, x_R10, x_R12, x_R13, x_R15, x_R16, x_R17, x_R21, x_R22, x_R23, x_R26, x_R27, x_R28, x_R29, x_R30, x_R32, x_R34, x_R35, x_R36, x_R37, x_R4, x_R40, x_R41, x_R43, x_R44, x_R45, x_R5, x_R6, x_R7, x_R8, x_R9, x_chk, x_chk15, x_chk7, x_w0I3, x_w0I4, x_w0I5, x_w0R1, x_w0R2, x_w1I3, x_w1I4, x_w1I5, x_w1R1, x_w1R2, x_sI1, x_sI14, x_sI18, x_sI19, x_sI2, x_sI20, x_sI24, x_sI25, x_sI3, x_sI31, x_sI33, x_sI38, x_sI39, x_sR11, x_sR42, x_w0sI3, x_w0sI4, x_w0sI5, x_w0sR, x_w1sI3, x_w1sI4, x_w1sI5, x_w1sR, x_A1n, x_sA1n, x_A13n, x_sA13n, x_A14n, x_sA14n, x_A21n, x_sA21n, x_A22n, x_sA22n, x_A27n, x_sA27n, x_A28n, x_sA28n, x_A29n, x_sA29n, x_A30n, x_sA30n, x_A31n, x_sA31n, x_A32n, x_sA32n, x_A33n, x_sA33n, x_A34n, x_sA34n, x_A35n, x_sA35n, x_A36n, x_sA36n, x_A37n, x_sA37n, x_A38n, x_sA38n, x_A39n, x_sA39n, x_A40n, x_sA40n, x_A41n, x_sA41n, x_A42n, x_sA42n, x_A43n, x_sA43n, evq_lv, evq_pure, lvM, m_hasn, m_isIn, m_one, m_isHang, x_w0R0e, x_R11e, x_w1R0e, Option.elim_some, Mo.bind_assoc, Mo.pure_bind, Mo.bind_pure, lit, nI_add, nI_mul, nI_subn, le_t, le_f, lt_t, lt_f, eq_t, eq_f, eqm_f, ltz_f, cond_true, cond_false, if_true, if_false]
      refine Ok.pM ⟨xs1, rfl, S1, t1, fun d hd => ?_⟩
      unfold hangS
      cases hb : (expS L t).testBit d with
      | true =>
        obtain ⟨k, k1, k2, rfl⟩ := (expS_bit L t d).mp hb
        rw [if_pos rfl]; exact l2 k k1 k2
      | false =>
        rw [if_neg (by simp)]
        exact l1 d hd (fun k hk hkt z => by
          have := (expS_bit L t d).mpr ⟨k, hk, hkt, z⟩
          rw [hb] at this; cases this)
  · subst q1
    have f1 : xs1.2.1 200 = some ho := by rw [S1.2.1]; exact e1
    have hg4 : ∀ d, d < rN r 2 → xs1.2.2.1 28 d = nI (hangS r B (expS L t) d) ∧ hangS r B (expS L t) d < 4 := fun d hd => ⟨l1 d hd, by unfold hangS; split; exact (hB d hd).2; exact (hgN_ok ok hd).2⟩
    have pr := pairs_run Z H ok f1 (x_at35 (ax := n) (g := G) (xs := xs1)) hg4
    have pl := pairsN_le ok (hangS r B (expS L t))
    simp (disch := omega) only [x_I1, x_I14, x_I18, x_I19, x_I2, x_I20, x_I24, x_I25, x_I3, x_I31, x_I33, x_I38, x_I39, x_R0, x_R10, x_R12, x_R13, x_R15, x_R16, x_R17, x_R21, x_R22, x_R23, x_R26, x_R27, x_R28, x_R29, x_R30, x_R32, x_R34, x_R35, x_R36, x_R37, x_R4, x_R40, x_R41, x_R43, x_R44, x_R45, x_R5, x_R6, x_R7, x_R8, x_R9, x_chk, x_chk15, x_chk7, x_w0I3, x_w0I4, x_w0I5, x_w0R1, x_w0R2, x_w1I3, x_w1I4, x_w1I5, x_w1R1, x_w1R2, x_sI1, x_sI14, x_sI18, x_sI19, x_sI2, x_sI20, x_sI24, x_sI25, x_sI3, x_sI31, x_sI33, x_sI38, x_sI39, x_sR11, x_sR42, x_w0sI3, x_w0sI4, x_w0sI5, x_w0sR, x_w1sI3, x_w1sI4, x_w1sI5, x_w1sR, x_A1n, x_sA1n, x_A13n, x_sA13n, x_A14n, x_sA14n, x_A21n, x_sA21n, x_A22n, x_sA22n, x_A27n, x_sA27n, x_A28n, x_sA28n, x_A29n, x_sA29n, x_A30n, x_sA30n, x_A31n, x_sA31n, x_A32n, x_sA32n, x_A33n, x_sA33n, x_A34n, x_sA34n, x_A35n, x_sA35n, x_A36n, x_sA36n, x_A37n, x_sA37n, x_A38n, x_sA38n, x_A39n, x_sA39n, x_A40n, x_sA40n, x_A41n, x_sA41n, x_A42n, x_sA42n, x_A43n, x_sA43n, evq_lv, evq_pure, lvM, m_hasn, m_isIn, m_one, m_isHang, x_w0R0e, x_R11e, x_w1R0e, Option.elim_some, Mo.bind_assoc, Mo.pure_bind, Mo.bind_pure, lit, nI_add, nI_mul, nI_subn, le_t, le_f, lt_t, lt_f, eq_t, eq_f, eqm_f, ltz_f, cond_true, cond_false, if_true, if_false, ev_call pr]
    obtain ⟨b, hb⟩ := hT
    rw [hL, hT2] at hb
    have ob : ∀ j, j < L.length → t.testBit j = false → xs.2.2.1 29 (t ||| 2 ^ j) = nI (b (t ||| 2 ^ j)) ∧ b (t ||| 2 ^ j) ≤ 100 := fun j hj hbj => ⟨(hb _ (or_gt hbj) (orl hj)).1, (hb _ (or_gt hbj) (orl hj)).2.1⟩
    refine Ok.bM (P := fun v h' => h' = mkX n G (zA xs1 30 t (nI (pairsN r (hangS r B (expS L t))))) ∧ ∃ b0, v = nI b0 ∧ ((t = T - 1 ∧ b0 = 0) ∨ (t ≠ T - 1 ∧ b0 = 1000000000))) ?_ (fun v h' ⟨q1, b0, q2, q3⟩ => ?_)
    · by_cases z : t = T - 1
      · simp (disch := omega) only [x_I1, x_I14, x_I18, x_I19, x_I2, x_I20, x_I24, x_I25, x_I3, x_I31, x_I33, x_I38, x_I39, x_R0, x_R10, x_R12, x_R13, x_R15, x_R16, x_R17, x_R21, x_R22, x_R23, x_R26, x_R27, x_R28, x_R29, x_R30, x_R32, x_R34, x_R35, x_R36, x_R37, x_R4, x_R40, x_R41, x_R43, x_R44, x_R45, x_R5, x_R6, x_R7, x_R8, x_R9, x_chk, x_chk15, x_chk7, x_w0I3, x_w0I4, x_w0I5, x_w0R1, x_w0R2, x_w1I3, x_w1I4, x_w1I5, x_w1R1, x_w1R2, x_sI1, x_sI14, x_sI18, x_sI19, x_sI2, x_sI20, x_sI24, x_sI25, x_sI3, x_sI31, x_sI33, x_sI38, x_sI39, x_sR11, x_sR42, x_w0sI3, x_w0sI4, x_w0sI5, x_w0sR, x_w1sI3, x_w1sI4, x_w1sI5, x_w1sR, x_A1n, x_sA1n, x_A13n, x_sA13n, x_A14n, x_sA14n, x_A21n, x_sA21n, x_A22n, x_sA22n, x_A27n, x_sA27n, x_A28n, x_sA28n, x_A29n, x_sA29n, x_A30n, x_sA30n, x_A31n, x_sA31n, x_A32n, x_sA32n, x_A33n, x_sA33n, x_A34n, x_sA34n, x_A35n, x_sA35n, x_A36n, x_sA36n, x_A37n, x_sA37n, x_A38n, x_sA38n, x_A39n, x_sA39n, x_A40n, x_sA40n, x_A41n, x_sA41n, x_A42n, x_sA42n, x_A43n, x_sA43n, evq_lv, evq_pure, lvM, m_hasn, m_isIn, m_one, m_isHang, x_w0R0e, x_R11e, x_w1R0e, Option.elim_some, Mo.bind_assoc, Mo.pure_bind, Mo.bind_pure, lit, nI_add, nI_mul, nI_subn, le_t, le_f, lt_t, lt_f, eq_t, eq_f, eqm_f, ltz_f, cond_true, cond_false, if_true, if_false]; exact Ok.pM ⟨rfl, 0, rfl, Or.inl ⟨z, rfl⟩⟩
      · simp (disch := omega) only [x_I1, x_I14, x_I18, x_I19, x_I2, x_I20, x_I24, x_I25, x_I3, x_I31, x_I33, x_I38, x_I39, x_R0, x_R10, x_R12, x_R13, x_R15, x_R16, x_R17, x_R21, x_R22, x_R23, x_R26, x_R27, x_R28, x_R29, x_R30, x_R32, x_R34, x_R35, x_R36, x_R37, x_R4, x_R40, x_R41, x_R43, x_R44, x_R45, x_R5, x_R6, x_R7, x_R8, x_R9, x_chk, x_chk15, x_chk7, x_w0I3, x_w0I4, x_w0I5, x_w0R1, x_w0R2, x_w1I3, x_w1I4, x_w1I5, x_w1R1, x_w1R2, x_sI1, x_sI14, x_sI18, x_sI19, x_sI2, x_sI20, x_sI24, x_sI25, x_sI3, x_sI31, x_sI33, x_sI38, x_sI39, x_sR11, x_sR42, x_w0sI3, x_w0sI4, x_w0sI5, x_w0sR, x_w1sI3, x_w1sI4, x_w1sI5, x_w1sR, x_A1n, x_sA1n, x_A13n, x_sA13n, x_A14n, x_sA14n, x_A21n, x_sA21n, x_A22n, x_sA22n, x_A27n, x_sA27n, x_A28n, x_sA28n, x_A29n, x_sA29n, x_A30n, x_sA30n, x_A31n, x_sA31n, x_A32n, x_sA32n, x_A33n, x_sA33n, x_A34n, x_sA34n, x_A35n, x_sA35n, x_A36n, x_sA36n, x_A37n, x_sA37n, x_A38n, x_sA38n, x_A39n, x_sA39n, x_A40n, x_sA40n, x_A41n, x_sA41n, x_A42n, x_sA42n, x_A43n, x_sA43n, evq_lv, evq_pure, lvM, m_hasn, m_isIn, m_one, m_isHang, x_w0R0e, x_R11e, x_w1R0e, Option.elim_some, Mo.bind_assoc, Mo.pure_bind, Mo.bind_pure, lit, nI_add, nI_mul, nI_subn, le_t, le_f, lt_t, lt_f, eq_t, eq_f, eqm_f, ltz_f, cond_true, cond_false, if_true, if_false]; exact Ok.pM ⟨rfl, 1000000000, rfl, Or.inr ⟨z, rfl⟩⟩
    · subst q1 q2
      have hb0 : b0 ≤ 1000000000 := by rcases q3 with ⟨-, z⟩ | ⟨-, z⟩ <;> omega
      have fb : ∀ j, j < L.length → t.testBit j = false → b (t ||| 2 ^ j) ≤ b0 := fun j hj hbj => by
        rcases q3 with ⟨z1, z2⟩ | ⟨z1, z2⟩
        · have h1 := or_gt hbj; have h2 := orl hj; omega
        · have := (ob j hj hbj).2; omega
      refine Ok.bM (P := fun v h' => h' = mkX n G (zA xs1 30 t (nI (pairsN r (hangS r B (expS L t))))) ∧ ∃ u, v = nI u ∧ u ≤ b0 ∧ minSo b0 (fun k => k < L.length ∧ t.testBit k = false) (fun k => b (t ||| 2 ^ k)) L.length u) ?_ (fun v h' ⟨q1, u, q2, q4, q5⟩ => ?_)
      · refine Ok.loopM (S := Int32 × Int32) (E := Int32) (fun k s h' => ∃ j u, j + k = L.length ∧ s = (nI u, nI j) ∧ u ≤ b0 ∧ h' = mkX n G (zA xs1 30 t (nI (pairsN r (hangS r B (expS L t))))) ∧ minSo b0 (fun k => k < L.length ∧ t.testBit k = false) (fun k => b (t ||| 2 ^ k)) j u) (fun k s h' hI => ?_) L.length _ _ ⟨0, b0, by omega, rfl, by omega, rfl, ⟨fun i hi => by omega, Or.inl ⟨rfl, fun i hi => by omega⟩⟩⟩
        obtain ⟨j, u, hk, rfl, hu, rfl, hM⟩ := hI
        dsimp only
        by_cases hj : j < L.length
        · have hN := hasN t (by omega) j (by omega)
          simp (disch := omega) only [x_I1, x_I14, x_I18, x_I19, x_I2, x_I20, x_I24, x_I25, x_I3, x_I31, x_I33, x_I38, x_I39, x_R0, x_R10, x_R12, x_R13, x_R15, x_R16, x_R17, x_R21, x_R22, x_R23, x_R26, x_R27, x_R28, x_R29, x_R30, x_R32, x_R34, x_R35, x_R36, x_R37, x_R4, x_R40, x_R41, x_R43, x_R44, x_R45, x_R5, x_R6, x_R7, x_R8, x_R9, x_chk, x_chk15, x_chk7, x_w0I3, x_w0I4, x_w0I5, x_w0R1, x_w0R2, x_w1I3, x_w1I4, x_w1I5, x_w1R1, x_w1R2, x_sI1, x_sI14, x_sI18, x_sI19, x_sI2, x_sI20, x_sI24, x_sI25, x_sI3, x_sI31, x_sI33, x_sI38, x_sI39, x_sR11, x_sR42, x_w0sI3, x_w0sI4, x_w0sI5, x_w0sR, x_w1sI3, x_w1sI4, x_w1sI5, x_w1sR, x_A1n, x_sA1n, x_A13n, x_sA13n, x_A14n, x_sA14n, x_A21n, x_sA21n, x_A22n, x_sA22n, x_A27n, x_sA27n, x_A28n, x_sA28n, x_A29n, x_sA29n, x_A30n, x_sA30n, x_A31n, x_sA31n, x_A32n, x_sA32n, x_A33n, x_sA33n, x_A34n, x_sA34n, x_A35n, x_sA35n, x_A36n, x_sA36n, x_A37n, x_sA37n, x_A38n, x_sA38n, x_A39n, x_sA39n, x_A40n, x_sA40n, x_A41n, x_sA41n, x_A42n, x_sA42n, x_A43n, x_sA43n, evq_lv, evq_pure, lvM, m_hasn, m_isIn, m_one, m_isHang, x_w0R0e, x_R11e, x_w1R0e, Option.elim_some, Mo.bind_assoc, Mo.pure_bind, Mo.bind_pure, lit, nI_add, nI_mul, nI_subn, le_t, le_f, lt_t, lt_f, eq_t, eq_f, eqm_f, ltz_f, cond_true, cond_false, if_true, if_false, hN]
          cases hbj : t.testBit j with
          | true =>
            simp (disch := omega) only [x_I1, x_I14, x_I18, x_I19, x_I2, x_I20, x_I24, x_I25, x_I3, x_I31, x_I33, x_I38, x_I39, x_R0, x_R10, x_R12, x_R13, x_R15, x_R16, x_R17, x_R21, x_R22, x_R23, x_R26, x_R27, x_R28, x_R29, x_R30, x_R32, x_R34, x_R35, x_R36, x_R37, x_R4, x_R40, x_R41, x_R43, x_R44, x_R45, x_R5, x_R6, x_R7, x_R8, x_R9, x_chk, x_chk15, x_chk7, x_w0I3, x_w0I4, x_w0I5, x_w0R1, x_w0R2, x_w1I3, x_w1I4, x_w1I5, x_w1R1, x_w1R2, x_sI1, x_sI14, x_sI18, x_sI19, x_sI2, x_sI20, x_sI24, x_sI25, x_sI3, x_sI31, x_sI33, x_sI38, x_sI39, x_sR11, x_sR42, x_w0sI3, x_w0sI4, x_w0sI5, x_w0sR, x_w1sI3, x_w1sI4, x_w1sI5, x_w1sR, x_A1n, x_sA1n, x_A13n, x_sA13n, x_A14n, x_sA14n, x_A21n, x_sA21n, x_A22n, x_sA22n, x_A27n, x_sA27n, x_A28n, x_sA28n, x_A29n, x_sA29n, x_A30n, x_sA30n, x_A31n, x_sA31n, x_A32n, x_sA32n, x_A33n, x_sA33n, x_A34n, x_sA34n, x_A35n, x_sA35n, x_A36n, x_sA36n, x_A37n, x_sA37n, x_A38n, x_sA38n, x_A39n, x_sA39n, x_A40n, x_sA40n, x_A41n, x_sA41n, x_A42n, x_sA42n, x_A43n, x_sA43n, evq_lv, evq_pure, lvM, m_hasn, m_isIn, m_one, m_isHang, x_w0R0e, x_R11e, x_w1R0e, Option.elim_some, Mo.bind_assoc, Mo.pure_bind, Mo.bind_pure, lit, nI_add, nI_mul, nI_subn, le_t, le_f, lt_t, lt_f, eq_t, eq_f, eqm_f, ltz_f, cond_true, cond_false, if_true, if_false]
            exact Ok.pM ⟨k - 1, by omega, j + 1, u, by omega, rfl, hu, rfl, hM.skip (by simp [hbj])⟩
          | false =>
            have o1 := oneB_n j (by omega)
            obtain ⟨o2, o3⟩ := ob j hj hbj
            have o4 := orl hj
            have x29 : xs1.2.2.1 29 (t ||| 2 ^ j) = nI (b (t ||| 2 ^ j)) := by rw [t1]; exact o2
            have mv : (if nI (b (t ||| 2 ^ j)) < nI u then nI (b (t ||| 2 ^ j)) else nI u) = nI (min u (b (t ||| 2 ^ j))) := by
              by_cases z : b (t ||| 2 ^ j) < u
              · rw [lt_t z (by omega), Nat.min_eq_right (by omega)]
              · rw [lt_f (by omega) (by omega), Nat.min_eq_left (by omega)]
            simp (disch := omega) only [x_I1, x_I14, x_I18, x_I19, x_I2, x_I20, x_I24, x_I25, x_I3, x_I31, x_I33, x_I38, x_I39, x_R0, x_R10, x_R12, x_R13, x_R15, x_R16, x_R17, x_R21, x_R22, x_R23, x_R26, x_R27, x_R28, x_R29, x_R30, x_R32, x_R34, x_R35, x_R36, x_R37, x_R4, x_R40, x_R41, x_R43, x_R44, x_R45, x_R5, x_R6, x_R7, x_R8, x_R9, x_chk, x_chk15, x_chk7, x_w0I3, x_w0I4, x_w0I5, x_w0R1, x_w0R2, x_w1I3, x_w1I4, x_w1I5, x_w1R1, x_w1R2, x_sI1, x_sI14, x_sI18, x_sI19, x_sI2, x_sI20, x_sI24, x_sI25, x_sI3, x_sI31, x_sI33, x_sI38, x_sI39, x_sR11, x_sR42, x_w0sI3, x_w0sI4, x_w0sI5, x_w0sR, x_w1sI3, x_w1sI4, x_w1sI5, x_w1sR, x_A1n, x_sA1n, x_A13n, x_sA13n, x_A14n, x_sA14n, x_A21n, x_sA21n, x_A22n, x_sA22n, x_A27n, x_sA27n, x_A28n, x_sA28n, x_A29n, x_sA29n, x_A30n, x_sA30n, x_A31n, x_sA31n, x_A32n, x_sA32n, x_A33n, x_sA33n, x_A34n, x_sA34n, x_A35n, x_sA35n, x_A36n, x_sA36n, x_A37n, x_sA37n, x_A38n, x_sA38n, x_A39n, x_sA39n, x_A40n, x_sA40n, x_A41n, x_sA41n, x_A42n, x_sA42n, x_A43n, x_sA43n, evq_lv, evq_pure, lvM, m_hasn, m_isIn, m_one, m_isHang, x_w0R0e, x_R11e, x_w1R0e, Option.elim_some, Mo.bind_assoc, Mo.pure_bind, Mo.bind_pure, lit, nI_add, nI_mul, nI_subn, le_t, le_f, lt_t, lt_f, eq_t, eq_f, eqm_f, ltz_f, cond_true, cond_false, if_true, if_false, uI_1, uI_2, uA_1, uA_21, uA_22, uA_3, uB_1, uB_21, uB_22, uB_3, uL_1, uL_21, uL_22, zI_1, zI_2, zR_1, zR_21, zR_22, zA_1, zA_21, zA_221, zA_222, zAA_1, zAA_21, zAA_221, zAA_222, zW_1, zW_21, zW_221, zW_2221, zW_2222, zL_1, zL_21, zL_221, zL_2221, zL_22221, zL_22222, va_eq, va_ne, o1, nI_or, x29, mv]
            exact Ok.pM ⟨k - 1, by omega, j + 1, _, by omega, rfl, by omega, rfl, hM.take ⟨hj, hbj⟩ (fb j hj hbj) hu⟩
        · have : j = L.length := by omega
          subst this
          simp (disch := omega) only [x_I1, x_I14, x_I18, x_I19, x_I2, x_I20, x_I24, x_I25, x_I3, x_I31, x_I33, x_I38, x_I39, x_R0, x_R10, x_R12, x_R13, x_R15, x_R16, x_R17, x_R21, x_R22, x_R23, x_R26, x_R27, x_R28, x_R29, x_R30, x_R32, x_R34, x_R35, x_R36, x_R37, x_R4, x_R40, x_R41, x_R43, x_R44, x_R45, x_R5, x_R6, x_R7, x_R8, x_R9, x_chk, x_chk15, x_chk7, x_w0I3, x_w0I4, x_w0I5, x_w0R1, x_w0R2, x_w1I3, x_w1I4, x_w1I5, x_w1R1, x_w1R2, x_sI1, x_sI14, x_sI18, x_sI19, x_sI2, x_sI20, x_sI24, x_sI25, x_sI3, x_sI31, x_sI33, x_sI38, x_sI39, x_sR11, x_sR42, x_w0sI3, x_w0sI4, x_w0sI5, x_w0sR, x_w1sI3, x_w1sI4, x_w1sI5, x_w1sR, x_A1n, x_sA1n, x_A13n, x_sA13n, x_A14n, x_sA14n, x_A21n, x_sA21n, x_A22n, x_sA22n, x_A27n, x_sA27n, x_A28n, x_sA28n, x_A29n, x_sA29n, x_A30n, x_sA30n, x_A31n, x_sA31n, x_A32n, x_sA32n, x_A33n, x_sA33n, x_A34n, x_sA34n, x_A35n, x_sA35n, x_A36n, x_sA36n, x_A37n, x_sA37n, x_A38n, x_sA38n, x_A39n, x_sA39n, x_A40n, x_sA40n, x_A41n, x_sA41n, x_A42n, x_sA42n, x_A43n, x_sA43n, evq_lv, evq_pure, lvM, m_hasn, m_isIn, m_one, m_isHang, x_w0R0e, x_R11e, x_w1R0e, Option.elim_some, Mo.bind_assoc, Mo.pure_bind, Mo.bind_pure, lit, nI_add, nI_mul, nI_subn, le_t, le_f, lt_t, lt_f, eq_t, eq_f, eqm_f, ltz_f, cond_true, cond_false, if_true, if_false]
          exact Ok.pM ⟨rfl, u, rfl, hu, hM⟩
      · subst q1 q2
        have mx : (if nI (pairsN r (hangS r B (expS L t))) < nI u then nI u else nI (pairsN r (hangS r B (expS L t)))) = nI (max (pairsN r (hangS r B (expS L t))) u) := maxI (by omega) (by omega)
        simp (disch := omega) only [x_I1, x_I14, x_I18, x_I19, x_I2, x_I20, x_I24, x_I25, x_I3, x_I31, x_I33, x_I38, x_I39, x_R0, x_R10, x_R12, x_R13, x_R15, x_R16, x_R17, x_R21, x_R22, x_R23, x_R26, x_R27, x_R28, x_R29, x_R30, x_R32, x_R34, x_R35, x_R36, x_R37, x_R4, x_R40, x_R41, x_R43, x_R44, x_R45, x_R5, x_R6, x_R7, x_R8, x_R9, x_chk, x_chk15, x_chk7, x_w0I3, x_w0I4, x_w0I5, x_w0R1, x_w0R2, x_w1I3, x_w1I4, x_w1I5, x_w1R1, x_w1R2, x_sI1, x_sI14, x_sI18, x_sI19, x_sI2, x_sI20, x_sI24, x_sI25, x_sI3, x_sI31, x_sI33, x_sI38, x_sI39, x_sR11, x_sR42, x_w0sI3, x_w0sI4, x_w0sI5, x_w0sR, x_w1sI3, x_w1sI4, x_w1sI5, x_w1sR, x_A1n, x_sA1n, x_A13n, x_sA13n, x_A14n, x_sA14n, x_A21n, x_sA21n, x_A22n, x_sA22n, x_A27n, x_sA27n, x_A28n, x_sA28n, x_A29n, x_sA29n, x_A30n, x_sA30n, x_A31n, x_sA31n, x_A32n, x_sA32n, x_A33n, x_sA33n, x_A34n, x_sA34n, x_A35n, x_sA35n, x_A36n, x_sA36n, x_A37n, x_sA37n, x_A38n, x_sA38n, x_A39n, x_sA39n, x_A40n, x_sA40n, x_A41n, x_sA41n, x_A42n, x_sA42n, x_A43n, x_sA43n, evq_lv, evq_pure, lvM, m_hasn, m_isIn, m_one, m_isHang, x_w0R0e, x_R11e, x_w1R0e, Option.elim_some, Mo.bind_assoc, Mo.pure_bind, Mo.bind_pure, lit, nI_add, nI_mul, nI_subn, le_t, le_f, lt_t, lt_f, eq_t, eq_f, eqm_f, ltz_f, cond_true, cond_false, if_true, if_false, uI_1, uI_2, uA_1, uA_21, uA_22, uA_3, uB_1, uB_21, uB_22, uB_3, uL_1, uL_21, uL_22, zI_1, zI_2, zR_1, zR_21, zR_22, zA_1, zA_21, zA_221, zA_222, zAA_1, zAA_21, zAA_221, zAA_222, zW_1, zW_21, zW_221, zW_2221, zW_2222, zL_1, zL_21, zL_221, zL_2221, zL_22221, zL_22222, va_eq, va_ne, mx]
        refine Ok.pM ⟨_, rfl, ((S1.zA (by decide)).zA (by decide)), ?_⟩
        have hmn : isMin (t = T - 1) (fun k => k < L.length ∧ t.testBit k = false) (fun k => b (t ||| 2 ^ k)) u := by
          rcases q3 with ⟨z1, z2⟩ | ⟨z1, z2⟩
          · refine Or.inl ⟨z1, by omega⟩
          · refine Or.inr ⟨z1, ?_, fun k hk => q5.1 k hk.1 hk⟩
            rcases q5.2 with ⟨-, y⟩ | ⟨i, y1, y2, y3⟩
            · obtain ⟨i, i1, i2⟩ := not_full (t := t) (n := L.length) (by rw [hT2]; exact ht) (by rw [hT2]; exact z1)
              exact absurd ⟨i1, i2⟩ (y i i1)
            · exact ⟨i, y2, y3⟩
        have u100 : u ≤ 100 := by
          rcases hmn with ⟨-, z⟩ | ⟨-, ⟨i, ⟨i1, i2⟩, i3⟩, -⟩
          · omega
          · have := (ob i i1 i2).2; dsimp only at i3; omega
        refine ⟨fun x => if x = t then max (pairsN r (hangS r B (expS L t))) u else b x, fun x hx1 hx2 => ?_⟩
        rw [hL, hT2] at hx2
        rw [hL]
        dsimp only
        have other : ∀ y, t ≤ y → ∀ k, y.testBit k = false → (if y ||| 2 ^ k = t then max (pairsN r (hangS r B (expS L t))) u else b (y ||| 2 ^ k)) = b (y ||| 2 ^ k) := fun y hy k hk => if_neg (by have := or_gt hk; omega)
        by_cases z : x = t
        · subst z
          rw [if_pos rfl]
          refine ⟨by rw [zA_221, va_eq, va_eq], by omega, u, ?_, by dsimp only; rw [if_pos rfl]; rfl⟩
          rw [hT2]
          rcases hmn with ⟨z1, z2⟩ | ⟨z1, ⟨i, i1, i2⟩, i3⟩
          · exact Or.inl ⟨z1, z2⟩
          · exact Or.inr ⟨z1, ⟨i, i1, by dsimp only; rw [other x (Nat.le_refl _) i i1.2]; exact i2⟩, fun k hk => by dsimp only; rw [other x (Nat.le_refl _) k hk.2]; exact i3 k hk⟩
        · obtain ⟨y1, y2, v, y3, y4⟩ := hb x (by omega) hx2
          rw [if_neg z]
          refine ⟨by rw [zA_221, va_eq, va_ne z, zA_221, va_ne (by decide), t1]; exact y1, y2, v, ?_, by dsimp only; rw [if_neg z]; exact y4⟩
          rcases y3 with ⟨z1, z2⟩ | ⟨z1, ⟨i, i1, i2⟩, i3⟩
          · exact Or.inl ⟨z1, z2⟩
          · exact Or.inr ⟨z1, ⟨i, i1, by dsimp only; rw [other x hx1 i i1.2]; exact i2⟩, fun k hk => by dsimp only; rw [other x hx1 k hk.2]; exact i3 k hk⟩
end
