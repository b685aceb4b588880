set_option maxRecDepth 100000
/-- a counted loop by what is so at each turn -/
theorem TM.loop_inv {S E : Type} {b : S → TM (S ⊕ E)} (c : Nat → S) (N : Nat) (I : Nat → MS → Prop) (P : E → MS → Prop) (step : ∀ i m, i < N → I i m → ∃ m', b (c i) m = some (.inl (c (i + 1)), m') ∧ I (i + 1) m') (stop : ∀ m, I N m → ∃ x m', b (c N) m = some (.inr x, m') ∧ P x m') : ∀ k i, i + k = N → ∀ m, I i m → ∃ x m', TM.loop b (c i) m = some (x, m') ∧ P x m' := by
  intro k
  induction k with
  | zero =>
    intro i hi m hI
    have : i = N := by omega
    subst this
    obtain ⟨x, m', e, p⟩ := stop m hI
    exact ⟨x, m', TM.loop_inr e, p⟩
  | succ k ih =>
    intro i hi m hI
    obtain ⟨m', e, p⟩ := step i m (by omega) hI
    obtain ⟨x, m2, e2, p2⟩ := ih (i + 1) (by omega) m' p
    exact ⟨x, m2, by rw [TM.loop_inl e, e2], p2⟩
theorem Mo.loop_inv {S E : Type} {b : S → Mo (S ⊕ E)} (c : Nat → S) (N : Nat) (I : Nat → gH → Prop) (P : E → gH → Prop) (step : ∀ i m, i < N → I i m → ∃ m', (b (c i)).1 m = some (.inl (c (i + 1)), m') ∧ I (i + 1) m') (stop : ∀ m, I N m → ∃ x m', (b (c N)).1 m = some (.inr x, m') ∧ P x m') : ∀ k i, i + k = N → ∀ m, I i m → ∃ x m', (Mo.loop b (c i)).1 m = some (x, m') ∧ P x m' := by
  intro k
  induction k with
  | zero =>
    intro i hi m hI
    have : i = N := by omega
    subst this
    obtain ⟨x, m', e, p⟩ := stop m hI
    exact ⟨x, m', Mo.loop_inr e, p⟩
  | succ k ih =>
    intro i hi m hI
    obtain ⟨m', e, p⟩ := step i m (by omega) hI
    obtain ⟨x, m2, e2, p2⟩ := ih (i + 1) (by omega) m' p
    exact ⟨x, m2, by rw [Mo.loop_inl e, e2], p2⟩
/-- what a leaf's cell adds -/
def stB (k : Nat) (m : MS) (c : Nat) : MS := if c < 50 then uB m 27 k (m.2.2.2 27 k ||| bitC c) else uB m 28 k (m.2.2.2 28 k ||| bitC (c - 50))
theorem stB_fold (k : Nat) : ∀ (L : List Nat) (m : MS), (L.foldl (stB k) m).1 = m.1 ∧ (L.foldl (stB k) m).2.1 = m.2.1 ∧ (L.foldl (stB k) m).2.2.1 = m.2.2.1 ∧ (∀ j i, (j ≠ 27 ∧ j ≠ 28) ∨ i ≠ k → (L.foldl (stB k) m).2.2.2 j i = m.2.2.2 j i) ∧ (L.foldl (stB k) m).2.2.2 27 k = L.foldl (fun v c => if c < 50 then v ||| bitC c else v) (m.2.2.2 27 k) ∧ (L.foldl (stB k) m).2.2.2 28 k = L.foldl (fun v c => if c < 50 then v else v ||| bitC (c - 50)) (m.2.2.2 28 k)
  | [], m => ⟨rfl, rfl, rfl, fun _ _ _ => rfl, rfl, rfl⟩
  | c :: L, m => by
    obtain ⟨a1, a2, a3, a4, a5, a6⟩ := stB_fold k L (stB k m c)
    rw [List.foldl_cons]
    have hb : (stB k m c).1 = m.1 ∧ (stB k m c).2.1 = m.2.1 ∧ (stB k m c).2.2.1 = m.2.2.1 ∧ (∀ j i, (j ≠ 27 ∧ j ≠ 28) ∨ i ≠ k → (stB k m c).2.2.2 j i = m.2.2.2 j i) ∧ (stB k m c).2.2.2 27 k = (if c < 50 then m.2.2.2 27 k ||| bitC c else m.2.2.2 27 k) ∧ (stB k m c).2.2.2 28 k = (if c < 50 then m.2.2.2 28 k else m.2.2.2 28 k ||| bitC (c - 50)) := by
      unfold stB
      by_cases h : c < 50
      · rw [if_pos h, if_pos h, if_pos h]
        refine ⟨rfl, rfl, rfl, fun j i hj => ?_, by simp [uB, va_up], by simp [uB, va_up]⟩
        rcases hj with hj | hj
        · simp [uB, va_up, hj.1]
        · by_cases hj2 : j = 27
          · subst hj2; simp [uB, va_up, hj]
          · simp [uB, va_up, hj2]
      · rw [if_neg h, if_neg h, if_neg h]
        refine ⟨rfl, rfl, rfl, fun j i hj => ?_, by simp [uB, va_up], by simp [uB, va_up]⟩
        rcases hj with hj | hj
        · simp [uB, va_up, hj.2]
        · by_cases hj2 : j = 28
          · subst hj2; simp [uB, va_up, hj]
          · simp [uB, va_up, hj2]
    obtain ⟨b1, b2, b3, b4, b5, b6⟩ := hb
    refine ⟨a1.trans b1, a2.trans b2, a3.trans b3, fun j i hj => (a4 j i hj).trans (b4 j i hj), ?_, ?_⟩
    · rw [a5, b5, List.foldl_cons]
    · rw [a6, b6, List.foldl_cons]
