set_option maxRecDepth 100000
section
variable {r : Row}
theorem drop_run (ok : okRow r) {m : MS} (hr : m.2.2.1 14 = r) (S : swOk m r (rN r 2)) {l : Nat → Nat} {d h k : Nat} (hd : d < rN r 2) (hh : h < 4) (hk : k < rN r 2) (hl : ∀ e, e < rN r 2 → m.2.2.1 34 e = nI (l e) ∧ l e < 16) : Ok (M_X10_drop (nI d) (nI h) (nI k) m) (fun _ m' => sameB [] [34] [] m m' ∧ ∀ e, e < rN r 2 → m'.2.2.1 34 e = nI (if e = d ∨ e = k then l e else andn (l e) (pm (biteR r d h e) 4))) := by
  have hm := ok.2.2.1.2
  unfold M_X10_drop
  refine Ok.bT (P := fun _ m' => sameB [] [34] [] m m' ∧ ∀ e, e < rN r 2 → m'.2.2.1 34 e = nI (if e = d ∨ e = k then l e else andn (l e) (pm (biteR r d h e) 4))) (Ok.forTs (S := Int32) (fun i => nI i) (rN r 2) (fun i m' => sameB [] [34] [] m m' ∧ ∀ e, e < rN r 2 → m'.2.2.1 34 e = nI (if i ≤ e ∨ e = d ∨ e = k then l e else andn (l e) (pm (biteR r d h e) 4))) (i := 0) rfl (by omega) ⟨sameB.rf, fun e he => by rw [if_pos (by omega)]; exact (hl e he).1⟩ (fun i m1 hi hI => ?_) (fun m1 hI => ?_)) (fun _ _ q => Ok.pT q)
  · obtain ⟨B, L⟩ := hI
    have hr1 : m1.2.2.1 14 = r := (B.2.1 14 (by decide)).trans hr
    have S1 : swOk m1 r (rN r 2) := ⟨fun e he => by rw [B.2.1 29 (by decide)]; exact S.1 e he, fun e g he hg => by rw [B.2.2 27 (by decide), B.2.2 28 (by decide)]; exact S.2 e g he hg⟩
    have same : i = d ∨ i = k → ∀ e, e < rN r 2 → m1.2.2.1 34 e = nI (if i + 1 ≤ e ∨ e = d ∨ e = k then l e else andn (l e) (pm (biteR r d h e) 4)) := fun z e he => by
      rw [L e he]
      congr 1
      by_cases y : e = i
      · subst y; rw [if_pos (by omega), if_pos (by omega)]
      · by_cases w : i ≤ e ∨ e = d ∨ e = k
        · rw [if_pos w, if_pos (by omega)]
        · rw [if_neg w, if_neg (by omega)]
    by_cases z1 : i = d
    · simp (disch := omega) only [tq_I, tq_L, tq_sI, tq_sL, tq_lv, tq_pure, lvT, TM.bind_assoc, TM.pure_bind, TM.bind_pure, te_An, te_Bn, te_sAn, te_sBn, t_doors, t_hasn, t_isIn, t_of0, t_of1, t_of2, t_of3, t_of4, t_of5, t_of6, t_of7, lit, nI_add, nI_mul, nI_subn, le_t, le_f, lt_t, lt_f, eq_t, eq_f, eqm_f, ltz_f, cond_true, cond_false, if_true, if_false, hr1, ok.2.2.1.1]
      exact Ok.pT ⟨rfl, B, same (Or.inl z1)⟩
    · by_cases z2 : i = k
      · simp (disch := omega) only [tq_I, tq_L, tq_sI, tq_sL, tq_lv, tq_pure, lvT, TM.bind_assoc, TM.pure_bind, TM.bind_pure, te_An, te_Bn, te_sAn, te_sBn, t_doors, t_hasn, t_isIn, t_of0, t_of1, t_of2, t_of3, t_of4, t_of5, t_of6, t_of7, lit, nI_add, nI_mul, nI_subn, le_t, le_f, lt_t, lt_f, eq_t, eq_f, eqm_f, ltz_f, cond_true, cond_false, if_true, if_false, hr1, ok.2.2.1.1]
        exact Ok.pT ⟨rfl, B, same (Or.inr z2)⟩
      · simp (disch := omega) only [tq_I, tq_L, tq_sI, tq_sL, tq_lv, tq_pure, lvT, TM.bind_assoc, TM.pure_bind, TM.bind_pure, te_An, te_Bn, te_sAn, te_sBn, t_doors, t_hasn, t_isIn, t_of0, t_of1, t_of2, t_of3, t_of4, t_of5, t_of6, t_of7, lit, nI_add, nI_mul, nI_subn, le_t, le_f, lt_t, lt_f, eq_t, eq_f, eqm_f, ltz_f, cond_true, cond_false, if_true, if_false, hr1, ok.2.2.1.1]
        refine Ok.bT (P := fun _ m' => sameB [] [34] [] m m' ∧ m'.2.2.1 34 i = nI (andn (l i) (pm (biteR r d h i) 4)) ∧ ∀ e, e ≠ i → m'.2.2.1 34 e = m1.2.2.1 34 e) ?_ (fun _ m2 ⟨q1, q2, q3⟩ => ?_)
        · refine Ok.forTs (S := Int32) (fun i => nI i) 4 (fun g m' => sameB [] [34] [] m m' ∧ m'.2.2.1 34 i = nI (andn (l i) (pm (biteR r d h i) g)) ∧ ∀ e, e ≠ i → m'.2.2.1 34 e = m1.2.2.1 34 e) (i := 0) rfl (by omega) ⟨B, ?_, fun _ _ => rfl⟩ (fun g m2 hg hI => ?_) (fun m2 hI => ?_)
          · rw [L i hi, if_pos (by omega)]
            congr 1
            have key : ∀ a : Nat, a < 16 → a = andn a 0 := by decide
            exact key _ (hl i hi).2
          · obtain ⟨B2, L2, L3⟩ := hI
            have S2 : swOk m2 r (rN r 2) := ⟨fun e he => by rw [B2.2.1 29 (by decide)]; exact S.1 e he, fun e g he hg => by rw [B2.2.2 27 (by decide), B2.2.2 28 (by decide)]; exact S.2 e g he hg⟩
            simp (disch := omega) only [tq_I, tq_L, tq_sI, tq_sL, tq_lv, tq_pure, lvT, TM.bind_assoc, TM.pure_bind, TM.bind_pure, te_An, te_Bn, te_sAn, te_sBn, t_doors, t_hasn, t_isIn, t_of0, t_of1, t_of2, t_of3, t_of4, t_of5, t_of6, t_of7, lit, nI_add, nI_mul, nI_subn, le_t, le_f, lt_t, lt_f, eq_t, eq_f, eqm_f, ltz_f, cond_true, cond_false, if_true, if_false, t_bite S2 hm]
            cases hc : biteR r d h i g with
            | false =>
              simp (disch := omega) only [tq_I, tq_L, tq_sI, tq_sL, tq_lv, tq_pure, lvT, TM.bind_assoc, TM.pure_bind, TM.bind_pure, te_An, te_Bn, te_sAn, te_sBn, t_doors, t_hasn, t_isIn, t_of0, t_of1, t_of2, t_of3, t_of4, t_of5, t_of6, t_of7, lit, nI_add, nI_mul, nI_subn, le_t, le_f, lt_t, lt_f, eq_t, eq_f, eqm_f, ltz_f, cond_true, cond_false, if_true, if_false]
              refine Ok.pT ⟨rfl, B2, ?_, L3⟩
              rw [L2]
              show _ = nI (andn (l i) (pm (biteR r d h i) g + _))
              rw [hc]; rfl
            | true =>
              simp (disch := omega) only [tq_I, tq_L, tq_sI, tq_sL, tq_lv, tq_pure, lvT, TM.bind_assoc, TM.pure_bind, TM.bind_pure, te_An, te_Bn, te_sAn, te_sBn, t_doors, t_hasn, t_isIn, t_of0, t_of1, t_of2, t_of3, t_of4, t_of5, t_of6, t_of7, lit, nI_add, nI_mul, nI_subn, le_t, le_f, lt_t, lt_f, eq_t, eq_f, eqm_f, ltz_f, cond_true, cond_false, if_true, if_false, L2, pm_step (biteR r d h i) hg (hl i hi).2 hc]
              refine Ok.pT ⟨rfl, B2.uA (by decide), by rw [uA_22, va_eq, va_eq], fun e he => ?_⟩
              rw [uA_22, va_eq, va_ne he]; exact L3 e he
          · simp (disch := omega) only [tq_I, tq_L, tq_sI, tq_sL, tq_lv, tq_pure, lvT, TM.bind_assoc, TM.pure_bind, TM.bind_pure, te_An, te_Bn, te_sAn, te_sBn, t_doors, t_hasn, t_isIn, t_of0, t_of1, t_of2, t_of3, t_of4, t_of5, t_of6, t_of7, lit, nI_add, nI_mul, nI_subn, le_t, le_f, lt_t, lt_f, eq_t, eq_f, eqm_f, ltz_f, cond_true, cond_false, if_true, if_false]
            exact Ok.pT hI
        · simp (disch := omega) only [tq_I, tq_L, tq_sI, tq_sL, tq_lv, tq_pure, lvT, TM.bind_assoc, TM.pure_bind, TM.bind_pure, te_An, te_Bn, te_sAn, te_sBn, t_doors, t_hasn, t_isIn, t_of0, t_of1, t_of2, t_of3, t_of4, t_of5, t_of6, t_of7, lit, nI_add, nI_mul, nI_subn, le_t, le_f, lt_t, lt_f, eq_t, eq_f, eqm_f, ltz_f, cond_true, cond_false, if_true, if_false]
          refine Ok.pT ⟨rfl, q1, fun e he => ?_⟩
          by_cases y : e = i
          · subst y; rw [q2, if_neg (by omega)]
          · rw [q3 e y, L e he]
            congr 1
            by_cases w : i ≤ e ∨ e = d ∨ e = k
            · rw [if_pos w, if_pos (by omega)]
            · rw [if_neg w, if_neg (by omega)]
  · obtain ⟨B, L⟩ := hI
    have hr1 : m1.2.2.1 14 = r := (B.2.1 14 (by decide)).trans hr
    simp (disch := omega) only [tq_I, tq_L, tq_sI, tq_sL, tq_lv, tq_pure, lvT, TM.bind_assoc, TM.pure_bind, TM.bind_pure, te_An, te_Bn, te_sAn, te_sBn, t_doors, t_hasn, t_isIn, t_of0, t_of1, t_of2, t_of3, t_of4, t_of5, t_of6, t_of7, lit, nI_add, nI_mul, nI_subn, le_t, le_f, lt_t, lt_f, eq_t, eq_f, eqm_f, ltz_f, cond_true, cond_false, if_true, if_false, hr1, ok.2.2.1.1]
    refine Ok.pT ⟨B, fun e he => ?_⟩
    rw [L e he]
    congr 1
    by_cases w : e = d ∨ e = k
    · rw [if_pos w, if_pos (by omega)]
    · rw [if_neg w, if_neg (by omega)]
theorem dead_run (ok : okRow r) {m : MS} (hr : m.2.2.1 14 = r) {l : Nat → Nat} {d : Nat} (hd : d < rN r 2) (hl : ∀ e, e < rN r 2 → m.2.2.1 34 e = nI (l e) ∧ l e < 16) : Ok (M_X10_deadOne (nI d) m) (fun v m' => m' = m ∧ isLeast (fun e => decide (e ≠ d) && decide (l e = 0)) 0 (rN r 2) v) := by
  have hm := ok.2.2.1.2
  unfold M_X10_deadOne
  refine Ok.forTs (S := Int32) (fun i => nI i) (rN r 2) (fun i m' => m' = m ∧ ∀ e, e < i → (decide (e ≠ d) && decide (l e = 0)) = false) (i := 0) rfl (by omega) ⟨rfl, fun e he => by omega⟩ (fun i m1 hi hI => ?_) (fun m1 hI => ?_)
  · obtain ⟨rfl, L⟩ := hI
    obtain ⟨l1, l2⟩ := hl i hi
    have nx : (decide (i ≠ d) && decide (l i = 0)) = false → ∀ e, e < i + 1 → (decide (e ≠ d) && decide (l e = 0)) = false := fun z e he => by
      by_cases y : e = i
      · subst y; exact z
      · exact L e (by omega)
    by_cases z1 : i = d
    · simp (disch := omega) only [tq_I, tq_L, tq_sI, tq_sL, tq_lv, tq_pure, lvT, TM.bind_assoc, TM.pure_bind, TM.bind_pure, te_An, te_Bn, te_sAn, te_sBn, t_doors, t_hasn, t_isIn, t_of0, t_of1, t_of2, t_of3, t_of4, t_of5, t_of6, t_of7, lit, nI_add, nI_mul, nI_subn, le_t, le_f, lt_t, lt_f, eq_t, eq_f, eqm_f, ltz_f, cond_true, cond_false, if_true, if_false, hr, ok.2.2.1.1]
      exact Ok.pT ⟨rfl, rfl, nx (by simp [z1])⟩
    · by_cases z2 : l i = 0
      · simp (disch := omega) only [tq_I, tq_L, tq_sI, tq_sL, tq_lv, tq_pure, lvT, TM.bind_assoc, TM.pure_bind, TM.bind_pure, te_An, te_Bn, te_sAn, te_sBn, t_doors, t_hasn, t_isIn, t_of0, t_of1, t_of2, t_of3, t_of4, t_of5, t_of6, t_of7, lit, nI_add, nI_mul, nI_subn, le_t, le_f, lt_t, lt_f, eq_t, eq_f, eqm_f, ltz_f, cond_true, cond_false, if_true, if_false, hr, ok.2.2.1.1, l1]
        exact Ok.pT ⟨rfl, Or.inr ⟨i, by omega, hi, rfl, by simp [z1, z2], fun f _ hf => L f hf⟩⟩
      · simp (disch := omega) only [tq_I, tq_L, tq_sI, tq_sL, tq_lv, tq_pure, lvT, TM.bind_assoc, TM.pure_bind, TM.bind_pure, te_An, te_Bn, te_sAn, te_sBn, t_doors, t_hasn, t_isIn, t_of0, t_of1, t_of2, t_of3, t_of4, t_of5, t_of6, t_of7, lit, nI_add, nI_mul, nI_subn, le_t, le_f, lt_t, lt_f, eq_t, eq_f, eqm_f, ltz_f, cond_true, cond_false, if_true, if_false, hr, ok.2.2.1.1, l1]
        exact Ok.pT ⟨rfl, rfl, nx (by simp [z2])⟩
  · obtain ⟨rfl, L⟩ := hI
    simp (disch := omega) only [tq_I, tq_L, tq_sI, tq_sL, tq_lv, tq_pure, lvT, TM.bind_assoc, TM.pure_bind, TM.bind_pure, te_An, te_Bn, te_sAn, te_sBn, t_doors, t_hasn, t_isIn, t_of0, t_of1, t_of2, t_of3, t_of4, t_of5, t_of6, t_of7, lit, nI_add, nI_mul, nI_subn, le_t, le_f, lt_t, lt_f, eq_t, eq_f, eqm_f, ltz_f, cond_true, cond_false, if_true, if_false, hr, ok.2.2.1.1]
    exact Ok.pT ⟨rfl, Or.inl ⟨rfl, fun e _ he => L e he⟩⟩
theorem next_run (ok : okRow r) {m : MS} (hr : m.2.2.1 14 = r) {l : Nat → Nat} {d : Nat} (s : Int32) (hd : d < rN r 2) (hl : ∀ e, e < rN r 2 → m.2.2.1 34 e = nI (l e) ∧ l e < 16) : Ok (M_X10_nextForced (nI d) s m) (fun v m' => m' = m ∧ isLeast (fun e => decide (e ≠ d) && !hasB s e && decide (pop (l e) = 1)) 0 (rN r 2) v) := by
  have hm := ok.2.2.1.2
  unfold M_X10_nextForced
  refine Ok.forTs (S := Int32) (fun i => nI i) (rN r 2) (fun i m' => m' = m ∧ ∀ e, e < i → (decide (e ≠ d) && !hasB s e && decide (pop (l e) = 1)) = false) (i := 0) rfl (by omega) ⟨rfl, fun e he => by omega⟩ (fun i m1 hi hI => ?_) (fun m1 hI => ?_)
  · obtain ⟨rfl, L⟩ := hI
    obtain ⟨l1, l2⟩ := hl i hi
    have pl : pop (l i) < 2 ^ 31 := Nat.lt_of_le_of_lt (pop_le 4 (l i) l2) (by decide)
    have nx : (decide (i ≠ d) && !hasB s i && decide (pop (l i) = 1)) = false → ∀ e, e < i + 1 → (decide (e ≠ d) && !hasB s e && decide (pop (l e) = 1)) = false := fun z e he => by
      by_cases y : e = i
      · subst y; exact z
      · exact L e (by omega)
    by_cases z1 : i = d
    · simp (disch := omega) only [tq_I, tq_L, tq_sI, tq_sL, tq_lv, tq_pure, lvT, TM.bind_assoc, TM.pure_bind, TM.bind_pure, te_An, te_Bn, te_sAn, te_sBn, t_doors, t_hasn, t_isIn, t_of0, t_of1, t_of2, t_of3, t_of4, t_of5, t_of6, t_of7, lit, nI_add, nI_mul, nI_subn, le_t, le_f, lt_t, lt_f, eq_t, eq_f, eqm_f, ltz_f, cond_true, cond_false, if_true, if_false, hr, ok.2.2.1.1]
      exact Ok.pT ⟨rfl, rfl, nx (by simp [z1])⟩
    · cases hc : hasB s i with
      | true =>
        simp (disch := omega) only [tq_I, tq_L, tq_sI, tq_sL, tq_lv, tq_pure, lvT, TM.bind_assoc, TM.pure_bind, TM.bind_pure, te_An, te_Bn, te_sAn, te_sBn, t_doors, t_hasn, t_isIn, t_of0, t_of1, t_of2, t_of3, t_of4, t_of5, t_of6, t_of7, lit, nI_add, nI_mul, nI_subn, le_t, le_f, lt_t, lt_f, eq_t, eq_f, eqm_f, ltz_f, cond_true, cond_false, if_true, if_false, hr, ok.2.2.1.1, hc]
        exact Ok.pT ⟨rfl, rfl, nx (by simp [hc])⟩
      | false =>
        by_cases z2 : pop (l i) = 1
        · simp (disch := omega) only [tq_I, tq_L, tq_sI, tq_sL, tq_lv, tq_pure, lvT, TM.bind_assoc, TM.pure_bind, TM.bind_pure, te_An, te_Bn, te_sAn, te_sBn, t_doors, t_hasn, t_isIn, t_of0, t_of1, t_of2, t_of3, t_of4, t_of5, t_of6, t_of7, lit, nI_add, nI_mul, nI_subn, le_t, le_f, lt_t, lt_f, eq_t, eq_f, eqm_f, ltz_f, cond_true, cond_false, if_true, if_false, hr, ok.2.2.1.1, l1, hc, t_of (bits_run _ _ _)]
          exact Ok.pT ⟨rfl, Or.inr ⟨i, by omega, hi, rfl, by simp [z1, z2, hc], fun f _ hf => L f hf⟩⟩
        · simp (disch := omega) only [tq_I, tq_L, tq_sI, tq_sL, tq_lv, tq_pure, lvT, TM.bind_assoc, TM.pure_bind, TM.bind_pure, te_An, te_Bn, te_sAn, te_sBn, t_doors, t_hasn, t_isIn, t_of0, t_of1, t_of2, t_of3, t_of4, t_of5, t_of6, t_of7, lit, nI_add, nI_mul, nI_subn, le_t, le_f, lt_t, lt_f, eq_t, eq_f, eqm_f, ltz_f, cond_true, cond_false, if_true, if_false, hr, ok.2.2.1.1, l1, hc, t_of (bits_run _ _ _)]
          exact Ok.pT ⟨rfl, rfl, nx (by simp [z2])⟩
  · obtain ⟨rfl, L⟩ := hI
    simp (disch := omega) only [tq_I, tq_L, tq_sI, tq_sL, tq_lv, tq_pure, lvT, TM.bind_assoc, TM.pure_bind, TM.bind_pure, te_An, te_Bn, te_sAn, te_sBn, t_doors, t_hasn, t_isIn, t_of0, t_of1, t_of2, t_of3, t_of4, t_of5, t_of6, t_of7, lit, nI_add, nI_mul, nI_subn, le_t, le_f, lt_t, lt_f, eq_t, eq_f, eqm_f, ltz_f, cond_true, cond_false, if_true, if_false, hr, ok.2.2.1.1]
    exact Ok.pT ⟨rfl, Or.inl ⟨rfl, fun e _ he => L e he⟩⟩
end
theorem ntz_run : ∀ g : Nat, g < 4 → ∀ h : gH, (M_J10_numberOfTrailingZeros (nI (2 ^ g))).1 h = some (nI g, h) := by
  intro g hg h
  rcases (show g = 0 ∨ g = 1 ∨ g = 2 ∨ g = 3 by omega) with rfl | rfl | rfl | rfl <;> rfl
theorem pop16 : ∀ a : Nat, a < 16 → popN a = 1 → a = 2 ^ 0 ∨ a = 2 ^ 1 ∨ a = 2 ^ 2 ∨ a = 2 ^ 3 := by decide +kernel
theorem pop_one {a : Nat} (ha : a < 16) (h : pop a = 1) : ∃ g, g < 4 ∧ a = 2 ^ g := by
  rw [popN_eq (by omega)] at h
  rcases pop16 a ha h with e | e | e | e
  · exact ⟨0, by omega, e⟩
  · exact ⟨1, by omega, e⟩
  · exact ⟨2, by omega, e⟩
  · exact ⟨3, by omega, e⟩
theorem hasN : ∀ s : Nat, s < 1024 → ∀ e : Nat, e < 10 → hasB (nI s) e = s.testBit e := by decide +kernel
theorem popN_or : ∀ s : Nat, s < 1024 → ∀ e : Nat, e < 10 → s.testBit e = false → popN (s ||| 2 ^ e) = popN s + 1 := by decide +kernel
theorem or_lt {s e : Nat} (hs : s < 1024) (he : e < 10) : s ||| 2 ^ e < 1024 := Nat.or_lt_two_pow (n := 10) hs (Nat.pow_lt_pow_right (by decide) he)
theorem pop_or {s e : Nat} (hs : s < 1024) (he : e < 10) (h : s.testBit e = false) : pop (s ||| 2 ^ e) = pop s + 1 := by
  rw [popN_eq (or_lt hs he), popN_eq hs, popN_or s hs e he h]
theorem nI_or (a b : Nat) : nI a ||| nI b = nI (a ||| b) := by
  apply Int32.toBitVec_inj.mp
  show BitVec.ofNat 32 a ||| BitVec.ofNat 32 b = BitVec.ofNat 32 (a ||| b)
  apply BitVec.eq_of_getLsbD_eq
  intro i hi
  simp [BitVec.getLsbD_or, BitVec.getLsbD_ofNat, Nat.testBit_or, hi]
theorem domR_pm (r : Row) (d : Nat) : domR r d = nI (pm (fun h => hasB (r (115 + 10 * d)) h && isFitR r d h) 4) := by
  have key : ∀ b0 b1 b2 b3 : Bool, ((((0 ||| (if b0 then oneB 0 else 0)) ||| (if b1 then oneB 1 else 0)) ||| (if b2 then oneB 2 else 0)) ||| (if b3 then oneB 3 else 0)) = nI (0 + (if b0 then 2 ^ 0 else 0) + (if b1 then 2 ^ 1 else 0) + (if b2 then 2 ^ 2 else 0) + (if b3 then 2 ^ 3 else 0)) := by decide
  rw [← domF_4, domF_succ, domF_succ, domF_succ, domF_succ]
  show ((((0 ||| _) ||| _) ||| _) ||| _) = _
  rw [key]
  rfl
