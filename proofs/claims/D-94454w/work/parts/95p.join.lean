set_option maxRecDepth 100000
section
variable {r : Row} {B : Nat → Nat}
/-- the reference's table -/
def TabR (r : Row) (B : Nat → Nat) (m : MS) (k : Nat) : Prop := ∃ f : Nat → Nat, ∀ s, k ≤ s → s < 2 ^ rN r 2 → wthin s (mkS (chF r B (rN r 2))) → m.2.2.1 40 s = nI (f s) ∧ f s ≤ 100 ∧ okR r B (mkS (chF r B (rN r 2))) f s
set_option maxHeartbeats 4000000 in
theorem tabR_turn (ok : okRow r) {m : MS} (hr : m.2.2.1 14 = r) (W : swOk m r (rN r 2)) (hB : ∀ d, d < rN r 2 → m.2.2.1 31 d = nI (B d) ∧ B d < 4) {s : Nat} (hs : s < 2 ^ rN r 2) (hw : wthin s (mkS (chF r B (rN r 2)))) (hT : TabR r B m (s + 1)) :
    Ok ((TM.bind (TM.loop (S := Int32) (E := Unit) (fun s20 => TM.bind (M_X10_doors) (fun v24 => if v24 ≤ s20 then TM.pure (Sum.inr ()) else TM.bind (M_X10_has (nI s) s20) (fun v25 => TM.bind ((cond v25 (TM.bind (tA 31 10 s20) (fun v29 => TM.pure v29)) (TM.bind (M_X10_of s20 4) (fun v28 => TM.pure v28)) : TM (Int32))) (fun u26 => TM.bind (sA 30 10 s20 u26) (fun _ => TM.lv (s20 + 1) (fun v27 => TM.pure (Sum.inl v27))))))) 0) (fun e23 => TM.bind (M_X10_clashesOf) (fun v30 => TM.bind (sA 39 1024 (nI s) v30) (fun _ => TM.bind ((if (nI s) = (nI (mkS (chF r B (rN r 2)))) then TM.pure 0 else TM.pure 1000 : TM (Int32))) (fun u31 => TM.bind (TM.loop (S := Int32 × Int32) (E := Int32) (fun s32 => TM.bind (M_X10_doors) (fun v36 => if v36 ≤ s32.2 then TM.pure (Sum.inr s32.1) else TM.bind (M_X10_has (nI (mkS (chF r B (rN r 2)))) s32.2) (fun v37 => TM.bind ((cond v37 (TM.bind (M_X10_has (nI s) s32.2) (fun v40 => cond v40 (TM.pure s32.1) (TM.bind (tA 40 1024 ((nI s) ||| (1 <<< (s32.2 &&& 31)))) (fun v41 => if s32.1 ≤ v41 then TM.pure s32.1 else TM.bind (tA 40 1024 ((nI s) ||| (1 <<< (s32.2 &&& 31)))) (fun v42 => TM.pure v42))))) (TM.pure s32.1) : TM (Int32))) (fun u38 => TM.lv (s32.2 + 1) (fun v39 => TM.pure (Sum.inl (u38, v39))))))) (u31, 0)) (fun e35 => TM.bind (tA 39 1024 (nI s)) (fun v43 => TM.bind ((if e35 ≤ v43 then TM.bind (tA 39 1024 (nI s)) (fun v45 => TM.pure v45) else TM.pure e35 : TM (Int32))) (fun u44 => TM.bind (sA 40 1024 (nI s) u44) (fun _ => TM.pure ()))))))))) m) (fun _ m' => sameB [] [30, 39, 40] [] m m' ∧ TabR r B m' s) := by
  have hm := ok.2.2.1.2
  have hAl : mkS (chF r B (rN r 2)) < 2 ^ rN r 2 := mkS_lt (fun d hd => chF_lt hd)
  have hAd : ∀ d, (mkS (chF r B (rN r 2))).testBit d = true → d < rN r 2 := fun d hd => by
    rw [mkS_bit, decide_eq_true_eq] at hd; exact chF_lt hd
  unfold TabR at hT ⊢
  generalize mkS (chF r B (rN r 2)) = A at *
  have hp10 := pow_le_1024 (k := rN r 2) hm
  have orl : ∀ {j}, j < rN r 2 → s ||| 2 ^ j < 2 ^ rN r 2 := fun {j} hj => Nat.or_lt_two_pow hs (Nat.pow_lt_pow_right (by decide) hj)
  generalize hT2 : 2 ^ rN r 2 = T at hs hp10 orl hAl
  simp only [hT2] at hT ⊢
  refine Ok.bT (P := fun _ m' => sameB [] [30, 39, 40] [] m m' ∧ m'.2.2.1 40 = m.2.2.1 40 ∧ ∀ d, d < rN r 2 → m'.2.2.1 30 d = nI (hangS r B s d)) ?_ (fun _ m1 ⟨S1, t1, l1⟩ => ?_)
  · refine Ok.forTs (S := Int32) (fun i => nI i) (rN r 2) (fun i m' => sameB [] [30, 39, 40] [] m m' ∧ m'.2.2.1 40 = m.2.2.1 40 ∧ ∀ d, d < i → m'.2.2.1 30 d = nI (hangS r B s d)) (i := 0) rfl (by omega) ⟨sameB.rf, rfl, fun d hd => by omega⟩ (fun i m1 hi hI => ?_) (fun m1 hI => ?_)
    · obtain ⟨S1, t1, l1⟩ := hI
      have hr1 : m1.2.2.1 14 = r := (S1.2.1 14 (by decide)).trans hr
      have hN := hasN s (by omega) i (by omega)
      have x31 : m1.2.2.1 31 i = nI (B i) := by rw [S1.2.1 31 (by decide)]; exact (hB i hi).1
      simp (disch := omega) only [tq_I, tq_L, tq_sI, tq_sL, tq_lv, tq_pure, lvT, TM.bind_assoc, TM.pure_bind, TM.bind_pure, te_An, te_Bn, te_sAn, te_sBn, t_doors, t_hasn, t_isIn, t_of0, t_of1, t_of2, t_of3, t_of4, t_of5, t_of6, t_of7, lit, nI_add, nI_mul, nI_subn, le_t, le_f, lt_t, lt_f, eq_t, eq_f, eqm_f, ltz_f, cond_true, cond_false, if_true, if_false, hr1, ok.2.2.1.1, hN]
      have fin : ∀ v, v = nI (hangS r B s i) → ∀ d, d < i + 1 → (uA m1 30 i v).2.2.1 30 d = nI (hangS r B s d) := fun v hv d hd => by
        rw [uA_22, va_eq]
        by_cases z : d = i
        · rw [z, va_eq, hv]
        · rw [va_ne z]; exact l1 d (by omega)
      cases hb : s.testBit i with
      | true =>
        simp (disch := omega) only [tq_I, tq_L, tq_sI, tq_sL, tq_lv, tq_pure, lvT, TM.bind_assoc, TM.pure_bind, TM.bind_pure, te_An, te_Bn, te_sAn, te_sBn, t_doors, t_hasn, t_isIn, t_of0, t_of1, t_of2, t_of3, t_of4, t_of5, t_of6, t_of7, lit, nI_add, nI_mul, nI_subn, le_t, le_f, lt_t, lt_f, eq_t, eq_f, eqm_f, ltz_f, cond_true, cond_false, if_true, if_false, x31]
        exact Ok.pT ⟨rfl, S1.uA (by decide), by simp (disch := omega) only [uI_1, uI_2, uA_1, uA_21, uA_22, uA_3, uB_1, uB_21, uB_22, uB_3, uL_1, uL_21, uL_22, zI_1, zI_2, zR_1, zR_21, zR_22, zA_1, zA_21, zA_221, zA_222, zAA_1, zAA_21, zAA_221, zAA_222, zW_1, zW_21, zW_221, zW_2221, zW_2222, zL_1, zL_21, zL_221, zL_2221, zL_22221, zL_22222, va_eq, va_ne]; exact t1, fin _ (by unfold hangS; rw [hb, if_pos rfl])⟩
      | false =>
        simp (disch := omega) only [tq_I, tq_L, tq_sI, tq_sL, tq_lv, tq_pure, lvT, TM.bind_assoc, TM.pure_bind, TM.bind_pure, te_An, te_Bn, te_sAn, te_sBn, t_doors, t_hasn, t_isIn, t_of0, t_of1, t_of2, t_of3, t_of4, t_of5, t_of6, t_of7, lit, nI_add, nI_mul, nI_subn, le_t, le_f, lt_t, lt_f, eq_t, eq_f, eqm_f, ltz_f, cond_true, cond_false, if_true, if_false, hr1, (hgN_ok ok hi).1]
        exact Ok.pT ⟨rfl, S1.uA (by decide), by simp (disch := omega) only [uI_1, uI_2, uA_1, uA_21, uA_22, uA_3, uB_1, uB_21, uB_22, uB_3, uL_1, uL_21, uL_22, zI_1, zI_2, zR_1, zR_21, zR_22, zA_1, zA_21, zA_221, zA_222, zAA_1, zAA_21, zAA_221, zAA_222, zW_1, zW_21, zW_221, zW_2221, zW_2222, zL_1, zL_21, zL_221, zL_2221, zL_22221, zL_22222, va_eq, va_ne]; exact t1, fin _ (by unfold hangS; rw [hb, if_neg (by simp)])⟩
    · obtain ⟨S1, t1, l1⟩ := hI
      have hr1 : m1.2.2.1 14 = r := (S1.2.1 14 (by decide)).trans hr
      simp (disch := omega) only [tq_I, tq_L, tq_sI, tq_sL, tq_lv, tq_pure, lvT, TM.bind_assoc, TM.pure_bind, TM.bind_pure, te_An, te_Bn, te_sAn, te_sBn, t_doors, t_hasn, t_isIn, t_of0, t_of1, t_of2, t_of3, t_of4, t_of5, t_of6, t_of7, lit, nI_add, nI_mul, nI_subn, le_t, le_f, lt_t, lt_f, eq_t, eq_f, eqm_f, ltz_f, cond_true, cond_false, if_true, if_false, hr1, ok.2.2.1.1]
      exact Ok.pT ⟨S1, t1, l1⟩
  · have hr1 : m1.2.2.1 14 = r := (S1.2.1 14 (by decide)).trans hr
    have W1 : swOk m1 r (rN r 2) := ⟨fun e he => by rw [S1.2.1 29 (by decide)]; exact W.1 e he, fun e k he hk => by rw [S1.2.2 27 (by decide), S1.2.2 28 (by decide)]; exact W.2 e k he hk⟩
    have hg4 : ∀ d, d < rN r 2 → m1.2.2.1 30 d = nI (hangS r B s d) ∧ hangS r B s d < 4 := fun d hd => ⟨l1 d hd, by unfold hangS; split; exact (hB d hd).2; exact (hgN_ok ok hd).2⟩
    have pr := clashesOf_run hr1 ok W1 hg4
    have pl := pairsN_le ok (hangS r B s)
    simp (disch := omega) only [tq_I, tq_L, tq_sI, tq_sL, tq_lv, tq_pure, lvT, TM.bind_assoc, TM.pure_bind, TM.bind_pure, te_An, te_Bn, te_sAn, te_sBn, t_doors, t_hasn, t_isIn, t_of0, t_of1, t_of2, t_of3, t_of4, t_of5, t_of6, t_of7, lit, nI_add, nI_mul, nI_subn, le_t, le_f, lt_t, lt_f, eq_t, eq_f, eqm_f, ltz_f, cond_true, cond_false, if_true, if_false, t_of pr]
    obtain ⟨f, hf⟩ := hT
    have ob : ∀ j, A.testBit j = true → s.testBit j = false → m.2.2.1 40 (s ||| 2 ^ j) = nI (f (s ||| 2 ^ j)) ∧ f (s ||| 2 ^ j) ≤ 100 := fun j hj hbj => ⟨(hf _ (or_gt hbj) (orl (hAd j hj)) (wthin_or hw hj)).1, (hf _ (or_gt hbj) (orl (hAd j hj)) (wthin_or hw hj)).2.1⟩
    refine Ok.bT (P := fun v m' => m' = uA m1 39 s (nI (pairsN r (hangS r B s))) ∧ ∃ b0, v = nI b0 ∧ ((s = A ∧ b0 = 0) ∨ (s ≠ A ∧ b0 = 1000))) ?_ (fun v m' ⟨q1, b0, q2, q3⟩ => ?_)
    · by_cases z : s = A
      · simp (disch := omega) only [tq_I, tq_L, tq_sI, tq_sL, tq_lv, tq_pure, lvT, TM.bind_assoc, TM.pure_bind, TM.bind_pure, te_An, te_Bn, te_sAn, te_sBn, t_doors, t_hasn, t_isIn, t_of0, t_of1, t_of2, t_of3, t_of4, t_of5, t_of6, t_of7, lit, nI_add, nI_mul, nI_subn, le_t, le_f, lt_t, lt_f, eq_t, eq_f, eqm_f, ltz_f, cond_true, cond_false, if_true, if_false]; exact Ok.pT ⟨rfl, 0, rfl, Or.inl ⟨z, rfl⟩⟩
      · simp (disch := omega) only [tq_I, tq_L, tq_sI, tq_sL, tq_lv, tq_pure, lvT, TM.bind_assoc, TM.pure_bind, TM.bind_pure, te_An, te_Bn, te_sAn, te_sBn, t_doors, t_hasn, t_isIn, t_of0, t_of1, t_of2, t_of3, t_of4, t_of5, t_of6, t_of7, lit, nI_add, nI_mul, nI_subn, le_t, le_f, lt_t, lt_f, eq_t, eq_f, eqm_f, ltz_f, cond_true, cond_false, if_true, if_false]; exact Ok.pT ⟨rfl, 1000, rfl, Or.inr ⟨z, rfl⟩⟩
    · subst q1 q2
      have hb0 : b0 ≤ 1000 := by rcases q3 with ⟨-, z⟩ | ⟨-, z⟩ <;> omega
      have fb : ∀ j, A.testBit j = true → s.testBit j = false → f (s ||| 2 ^ j) ≤ b0 := fun j hj hbj => by
        rcases q3 with ⟨z1, z2⟩ | ⟨z1, z2⟩
        · rw [z1, hj] at hbj; cases hbj
        · have := (ob j hj hbj).2; omega
      have hr2 : (uA m1 39 s (nI (pairsN r (hangS r B s)))).2.2.1 14 = r := hr1
      have t2 : (uA m1 39 s (nI (pairsN r (hangS r B s)))).2.2.1 40 = m.2.2.1 40 := t1
      refine Ok.bT (P := fun v m' => m' = uA m1 39 s (nI (pairsN r (hangS r B s))) ∧ ∃ u, v = nI u ∧ u ≤ b0 ∧ minSo b0 (fun k => A.testBit k = true ∧ s.testBit k = false) (fun k => f (s ||| 2 ^ k)) (rN r 2) u) ?_ (fun v m' ⟨q1, u, q2, q4, q5⟩ => ?_)
      · refine Ok.loopT (S := Int32 × Int32) (E := Int32) (fun k s' m' => ∃ j u, j + k = rN r 2 ∧ s' = (nI u, nI j) ∧ u ≤ b0 ∧ m' = uA m1 39 s (nI (pairsN r (hangS r B s))) ∧ minSo b0 (fun k => A.testBit k = true ∧ s.testBit k = false) (fun k => f (s ||| 2 ^ k)) j u) (fun k s' m' hI => ?_) (rN r 2) _ _ ⟨0, b0, by omega, rfl, by omega, rfl, ⟨fun i hi => by omega, Or.inl ⟨rfl, fun i hi => by omega⟩⟩⟩
        obtain ⟨j, u, hk, rfl, hu, rfl, hM⟩ := hI
        dsimp only
        by_cases hj : j < rN r 2
        · have hN := hasN s (by omega) j (by omega)
          have hN2 := hasN A (by omega) j (by omega)
          simp (disch := omega) only [tq_I, tq_L, tq_sI, tq_sL, tq_lv, tq_pure, lvT, TM.bind_assoc, TM.pure_bind, TM.bind_pure, te_An, te_Bn, te_sAn, te_sBn, t_doors, t_hasn, t_isIn, t_of0, t_of1, t_of2, t_of3, t_of4, t_of5, t_of6, t_of7, lit, nI_add, nI_mul, nI_subn, le_t, le_f, lt_t, lt_f, eq_t, eq_f, eqm_f, ltz_f, cond_true, cond_false, if_true, if_false, hr2, ok.2.2.1.1, hN, hN2]
          cases hA : A.testBit j with
          | false =>
            simp (disch := omega) only [tq_I, tq_L, tq_sI, tq_sL, tq_lv, tq_pure, lvT, TM.bind_assoc, TM.pure_bind, TM.bind_pure, te_An, te_Bn, te_sAn, te_sBn, t_doors, t_hasn, t_isIn, t_of0, t_of1, t_of2, t_of3, t_of4, t_of5, t_of6, t_of7, lit, nI_add, nI_mul, nI_subn, le_t, le_f, lt_t, lt_f, eq_t, eq_f, eqm_f, ltz_f, cond_true, cond_false, if_true, if_false]
            exact Ok.pT ⟨k - 1, by omega, j + 1, u, by omega, rfl, hu, rfl, hM.skip (by simp [hA])⟩
          | true =>
            cases hbj : s.testBit j with
            | true =>
              simp (disch := omega) only [tq_I, tq_L, tq_sI, tq_sL, tq_lv, tq_pure, lvT, TM.bind_assoc, TM.pure_bind, TM.bind_pure, te_An, te_Bn, te_sAn, te_sBn, t_doors, t_hasn, t_isIn, t_of0, t_of1, t_of2, t_of3, t_of4, t_of5, t_of6, t_of7, lit, nI_add, nI_mul, nI_subn, le_t, le_f, lt_t, lt_f, eq_t, eq_f, eqm_f, ltz_f, cond_true, cond_false, if_true, if_false, hN, hbj]
              exact Ok.pT ⟨k - 1, by omega, j + 1, u, by omega, rfl, hu, rfl, hM.skip (by simp [hbj])⟩
            | false =>
              have o1 := shl_n j (by omega)
              obtain ⟨o2, o3⟩ := ob j hA hbj
              have o4 := orl hj
              have x40 : m1.2.2.1 40 (s ||| 2 ^ j) = nI (f (s ||| 2 ^ j)) := by rw [t1]; exact o2
              have tk := hM.take ⟨hA, hbj⟩ (fb j hA hbj) hu
              by_cases z : u ≤ f (s ||| 2 ^ j)
              · rw [Nat.min_eq_left z] at tk
                simp (disch := omega) only [tq_I, tq_L, tq_sI, tq_sL, tq_lv, tq_pure, lvT, TM.bind_assoc, TM.pure_bind, TM.bind_pure, te_An, te_Bn, te_sAn, te_sBn, t_doors, t_hasn, t_isIn, t_of0, t_of1, t_of2, t_of3, t_of4, t_of5, t_of6, t_of7, lit, nI_add, nI_mul, nI_subn, le_t, le_f, lt_t, lt_f, eq_t, eq_f, eqm_f, ltz_f, cond_true, cond_false, if_true, if_false, uI_1, uI_2, uA_1, uA_21, uA_22, uA_3, uB_1, uB_21, uB_22, uB_3, uL_1, uL_21, uL_22, zI_1, zI_2, zR_1, zR_21, zR_22, zA_1, zA_21, zA_221, zA_222, zAA_1, zAA_21, zAA_221, zAA_222, zW_1, zW_21, zW_221, zW_2221, zW_2222, zL_1, zL_21, zL_221, zL_2221, zL_22221, zL_22222, va_eq, va_ne, hN, hbj, o1, nI_or, x40]
                exact Ok.pT ⟨k - 1, by omega, j + 1, u, by omega, rfl, hu, rfl, tk⟩
              · rw [Nat.min_eq_right (by omega)] at tk
                simp (disch := omega) only [tq_I, tq_L, tq_sI, tq_sL, tq_lv, tq_pure, lvT, TM.bind_assoc, TM.pure_bind, TM.bind_pure, te_An, te_Bn, te_sAn, te_sBn, t_doors, t_hasn, t_isIn, t_of0, t_of1, t_of2, t_of3, t_of4, t_of5, t_of6, t_of7, lit, nI_add, nI_mul, nI_subn, le_t, le_f, lt_t, lt_f, eq_t, eq_f, eqm_f, ltz_f, cond_true, cond_false, if_true, if_false, uI_1, uI_2, uA_1, uA_21, uA_22, uA_3, uB_1, uB_21, uB_22, uB_3, uL_1, uL_21, uL_22, zI_1, zI_2, zR_1, zR_21, zR_22, zA_1, zA_21, zA_221, zA_222, zAA_1, zAA_21, zAA_221, zAA_222, zW_1, zW_21, zW_221, zW_2221, zW_2222, zL_1, zL_21, zL_221, zL_2221, zL_22221, zL_22222, va_eq, va_ne, hN, hbj, o1, nI_or, x40]
                exact Ok.pT ⟨k - 1, by omega, j + 1, _, by omega, rfl, by omega, rfl, tk⟩
        · have : j = rN r 2 := by omega
          subst this
          simp (disch := omega) only [tq_I, tq_L, tq_sI, tq_sL, tq_lv, tq_pure, lvT, TM.bind_assoc, TM.pure_bind, TM.bind_pure, te_An, te_Bn, te_sAn, te_sBn, t_doors, t_hasn, t_isIn, t_of0, t_of1, t_of2, t_of3, t_of4, t_of5, t_of6, t_of7, lit, nI_add, nI_mul, nI_subn, le_t, le_f, lt_t, lt_f, eq_t, eq_f, eqm_f, ltz_f, cond_true, cond_false, if_true, if_false, hr2, ok.2.2.1.1]
          exact Ok.pT ⟨rfl, u, rfl, hu, hM⟩
      · subst q1 q2
        have hmn : isMin (s = A) (fun d => A.testBit d = true ∧ s.testBit d = false) (fun d => f (s ||| 2 ^ d)) u := by
          rcases q3 with ⟨z1, z2⟩ | ⟨z1, z2⟩
          · exact Or.inl ⟨z1, by omega⟩
          · refine Or.inr ⟨z1, ?_, fun k hk => q5.1 k (hAd k hk.1) hk⟩
            rcases q5.2 with ⟨-, y⟩ | ⟨i, y1, y2, y3⟩
            · refine absurd (bit_ext fun d => ?_) z1
              cases h1 : s.testBit d with
              | true => rw [hw d h1]
              | false =>
                cases h2 : A.testBit d with
                | false => rfl
                | true => exact absurd ⟨h2, h1⟩ (y d (hAd d h2))
            · exact ⟨i, y2, y3⟩
        have u100 : u ≤ 100 := by
          rcases hmn with ⟨-, z⟩ | ⟨-, ⟨i, ⟨i1, i2⟩, i3⟩, -⟩
          · omega
          · have := (ob i i1 i2).2; dsimp only at i3; omega
        have fin : Ok (TM.bind (sA 40 1024 (nI s) (nI (max (pairsN r (hangS r B s)) u))) (fun _ => TM.pure ()) (uA m1 39 s (nI (pairsN r (hangS r B s))))) (fun _ m' => sameB [] [30, 39, 40] [] m m' ∧ ∃ f, ∀ s', s ≤ s' → s' < T → wthin s' A → m'.2.2.1 40 s' = nI (f s') ∧ f s' ≤ 100 ∧ okR r B A f s') := by
          simp (disch := omega) only [tq_I, tq_L, tq_sI, tq_sL, tq_lv, tq_pure, lvT, TM.bind_assoc, TM.pure_bind, TM.bind_pure, te_An, te_Bn, te_sAn, te_sBn, t_doors, t_hasn, t_isIn, t_of0, t_of1, t_of2, t_of3, t_of4, t_of5, t_of6, t_of7, lit, nI_add, nI_mul, nI_subn, le_t, le_f, lt_t, lt_f, eq_t, eq_f, eqm_f, ltz_f, cond_true, cond_false, if_true, if_false]
          refine Ok.pT ⟨(S1.uA (by decide)).uA (by decide), fun x => if x = s then max (pairsN r (hangS r B s)) u else f x, fun x hx1 hx2 hxw => ?_⟩
          dsimp only
          have other : ∀ y, s ≤ y → ∀ k, y.testBit k = false → (if y ||| 2 ^ k = s then max (pairsN r (hangS r B s)) u else f (y ||| 2 ^ k)) = f (y ||| 2 ^ k) := fun y hy k hk => if_neg (by have := or_gt hk; omega)
          by_cases z : x = s
          · subst z
            rw [if_pos rfl]
            refine ⟨by rw [uA_22, va_eq, va_eq], by omega, u, ?_, by dsimp only; rw [if_pos rfl]; rfl⟩
            rcases hmn with ⟨z1, z2⟩ | ⟨z1, ⟨i, i1, i2⟩, i3⟩
            · exact Or.inl ⟨z1, z2⟩
            · exact Or.inr ⟨z1, ⟨i, i1, by dsimp only; rw [other x (Nat.le_refl _) i i1.2]; exact i2⟩, fun k hk => by dsimp only; rw [other x (Nat.le_refl _) k hk.2]; exact i3 k hk⟩
          · obtain ⟨y1, y2, v, y3, y4⟩ := hf x (by omega) hx2 hxw
            rw [if_neg z]
            refine ⟨by rw [uA_22, va_eq, va_ne z, uA_22, va_ne (by decide), t1]; exact y1, y2, v, ?_, by dsimp only; rw [if_neg z]; exact y4⟩
            rcases y3 with ⟨z1, z2⟩ | ⟨z1, ⟨i, i1, i2⟩, i3⟩
            · exact Or.inl ⟨z1, z2⟩
            · exact Or.inr ⟨z1, ⟨i, i1, by dsimp only; rw [other x hx1 i i1.2]; exact i2⟩, fun k hk => by dsimp only; rw [other x hx1 k hk.2]; exact i3 k hk⟩
        by_cases z : u ≤ pairsN r (hangS r B s)
        · rw [Nat.max_eq_left z] at fin
          simp (disch := omega) only [tq_I, tq_L, tq_sI, tq_sL, tq_lv, tq_pure, lvT, TM.bind_assoc, TM.pure_bind, TM.bind_pure, te_An, te_Bn, te_sAn, te_sBn, t_doors, t_hasn, t_isIn, t_of0, t_of1, t_of2, t_of3, t_of4, t_of5, t_of6, t_of7, lit, nI_add, nI_mul, nI_subn, le_t, le_f, lt_t, lt_f, eq_t, eq_f, eqm_f, ltz_f, cond_true, cond_false, if_true, if_false, uI_1, uI_2, uA_1, uA_21, uA_22, uA_3, uB_1, uB_21, uB_22, uB_3, uL_1, uL_21, uL_22, zI_1, zI_2, zR_1, zR_21, zR_22, zA_1, zA_21, zA_221, zA_222, zAA_1, zAA_21, zAA_221, zAA_222, zW_1, zW_21, zW_221, zW_2221, zW_2222, zL_1, zL_21, zL_221, zL_2221, zL_22221, zL_22222, va_eq, va_ne]
          simp (disch := omega) only [tq_I, tq_L, tq_sI, tq_sL, tq_lv, tq_pure, lvT, TM.bind_assoc, TM.pure_bind, TM.bind_pure, te_An, te_Bn, te_sAn, te_sBn, t_doors, t_hasn, t_isIn, t_of0, t_of1, t_of2, t_of3, t_of4, t_of5, t_of6, t_of7, lit, nI_add, nI_mul, nI_subn, le_t, le_f, lt_t, lt_f, eq_t, eq_f, eqm_f, ltz_f, cond_true, cond_false, if_true, if_false, uI_1, uI_2, uA_1, uA_21, uA_22, uA_3, uB_1, uB_21, uB_22, uB_3, uL_1, uL_21, uL_22, zI_1, zI_2, zR_1, zR_21, zR_22, zA_1, zA_21, zA_221, zA_222, zAA_1, zAA_21, zAA_221, zAA_222, zW_1, zW_21, zW_221, zW_2221, zW_2222, zL_1, zL_21, zL_221, zL_2221, zL_22221, zL_22222, va_eq, va_ne] at fin
          exact fin
        · rw [Nat.max_eq_right (by omega)] at fin
          simp (disch := omega) only [tq_I, tq_L, tq_sI, tq_sL, tq_lv, tq_pure, lvT, TM.bind_assoc, TM.pure_bind, TM.bind_pure, te_An, te_Bn, te_sAn, te_sBn, t_doors, t_hasn, t_isIn, t_of0, t_of1, t_of2, t_of3, t_of4, t_of5, t_of6, t_of7, lit, nI_add, nI_mul, nI_subn, le_t, le_f, lt_t, lt_f, eq_t, eq_f, eqm_f, ltz_f, cond_true, cond_false, if_true, if_false, uI_1, uI_2, uA_1, uA_21, uA_22, uA_3, uB_1, uB_21, uB_22, uB_3, uL_1, uL_21, uL_22, zI_1, zI_2, zR_1, zR_21, zR_22, zA_1, zA_21, zA_221, zA_222, zAA_1, zAA_21, zAA_221, zAA_222, zW_1, zW_21, zW_221, zW_2221, zW_2222, zL_1, zL_21, zL_221, zL_2221, zL_22221, zL_22222, va_eq, va_ne]
          simp (disch := omega) only [tq_I, tq_L, tq_sI, tq_sL, tq_lv, tq_pure, lvT, TM.bind_assoc, TM.pure_bind, TM.bind_pure, te_An, te_Bn, te_sAn, te_sBn, t_doors, t_hasn, t_isIn, t_of0, t_of1, t_of2, t_of3, t_of4, t_of5, t_of6, t_of7, lit, nI_add, nI_mul, nI_subn, le_t, le_f, lt_t, lt_f, eq_t, eq_f, eqm_f, ltz_f, cond_true, cond_false, if_true, if_false, uI_1, uI_2, uA_1, uA_21, uA_22, uA_3, uB_1, uB_21, uB_22, uB_3, uL_1, uL_21, uL_22, zI_1, zI_2, zR_1, zR_21, zR_22, zA_1, zA_21, zA_221, zA_222, zAA_1, zAA_21, zAA_221, zAA_222, zW_1, zW_21, zW_221, zW_2221, zW_2222, zL_1, zL_21, zL_221, zL_2221, zL_22221, zL_22222, va_eq, va_ne] at fin
          exact fin
end
