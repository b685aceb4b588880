set_option maxRecDepth 100000
def xs0 (n : Nat) : XS := (fun _ => 0, fun k => if k = 11 then some (n + 23) else if k = 200 then some (n + 8) else if k = 201 then some (n + 16) else none, fun _ _ => 0, fun j k => if k = 3 ∧ (j = 0 ∨ j = 1) then -1 else if k = 0 ∧ j = 5 then 900 else if k = 0 ∧ j = 6 then 600 else if k = 0 ∧ j = 7 then 200 else 0, fun _ => 0, fun _ _ => none)
def ms0 : MS := (fun _ => 0, fun _ => 0, fun k => if k = 48 then va_up (va_up (va_up (va_up (va_up (fun _ => 0) 0 (-2)) 1 (-2)) 2 (-2)) 3 (-2)) 4 (-2) else fun _ => 0, fun _ _ => 0)
theorem init_x (n : Nat) : ∀ o : Nat, o < 50 → xCell n (xs0 n) ((cells0 n).getD o gDead) o = (cells0 n).getD o gDead := by
  intro o ho
  match o, ho with
  | 0, _ => rfl
  | 1, _ => rfl
  | 2, _ => rfl
  | 3, _ => rfl
  | 4, _ => rfl
  | 5, _ => rfl
  | 6, _ => rfl
  | 7, _ => rfl
  | 8, _ => rfl
  | 9, _ => rfl
  | 10, _ => rfl
  | 11, _ => rfl
  | 12, _ => rfl
  | 13, _ => rfl
  | 14, _ => rfl
  | 15, _ => rfl
  | 16, _ => rfl
  | 17, _ => rfl
  | 18, _ => rfl
  | 19, _ => rfl
  | 20, _ => rfl
  | 21, _ => rfl
  | 22, _ => rfl
  | 23, _ => rfl
  | 24, _ => rfl
  | 25, _ => rfl
  | 26, _ => rfl
  | 27, _ => rfl
  | 28, _ => rfl
  | 29, _ => rfl
  | 30, _ => rfl
  | 31, _ => rfl
  | 32, _ => rfl
  | 33, _ => rfl
  | 34, _ => rfl
  | 35, _ => rfl
  | 36, _ => rfl
  | 37, _ => rfl
  | 38, _ => rfl
  | 39, _ => rfl
  | 40, _ => rfl
  | 41, _ => rfl
  | 42, _ => rfl
  | 43, _ => rfl
  | 44, _ => rfl
  | 45, _ => rfl
  | 46, _ => rfl
  | 47, _ => rfl
  | 48, _ => rfl
  | 49, _ => rfl
  | k + 50, h => omega
theorem init_m (n : Nat) : ∀ j : Nat, j < 32 → mArr ms0 j = (cells0 n).getD (51 + j) gDead := by
  intro o ho
  match o, ho with
  | 0, _ => rfl
  | 1, _ => rfl
  | 2, _ => rfl
  | 3, _ => rfl
  | 4, _ => rfl
  | 5, _ => rfl
  | 6, _ => rfl
  | 7, _ => rfl
  | 8, _ => rfl
  | 9, _ => rfl
  | 10, _ => rfl
  | 11, _ => rfl
  | 12, _ => rfl
  | 13, _ => rfl
  | 14, _ => rfl
  | 15, _ => rfl
  | 16, _ => rfl
  | 17, _ => rfl
  | 18, _ => rfl
  | 19, _ => rfl
  | 20, _ => rfl
  | 21, _ => rfl
  | 22, _ => rfl
  | 23, _ => rfl
  | 24, _ => rfl
  | 25, _ => rfl
  | 26, _ => rfl
  | 27, _ => rfl
  | 28, _ => rfl
  | 29, _ => rfl
  | 30, _ => rfl
  | 31, _ => rfl
  | k + 32, h => omega
theorem init_o (n : Nat) : (cells0 n).getD 50 gDead = .inr (8, mFs (n + 50) ms0) := by
  have e : ∀ k : Nat, n + (50 + k) = n + 50 + k := fun k => by omega
  unfold mFs mFk
  simp only [List.mapIdx_cons, List.mapIdx_nil, mV, ms0]
  simp only [cells0, List.getD_cons_succ, List.getD_cons_zero]
theorem init_eq (n s : Nat) : hL n (cells0 n) s = mkM (n + 50) (mkX n (hL n (cells0 n) s) (xs0 n)) ms0 := by
  refine Prod.ext ?_ rfl
  funext a
  by_cases h1 : a < n
  · simp only [mkM, if_neg (show ¬ a = n + 50 by omega), if_neg (show ¬ (n + 50 < a ∧ a ≤ n + 50 + 32) by omega), mkX, if_pos h1]
  · obtain ⟨o, rfl⟩ : ∃ o, a = n + o := ⟨a - n, by omega⟩
    have hg : (hL n (cells0 n) s).1 (n + o) = (cells0 n).getD o gDead := by
      unfold hL
      simp only [if_neg h1, Nat.add_sub_cancel_left]
    by_cases h2 : o = 50
    · subst h2
      rw [hg, init_o, mkM_o]
    · by_cases h3 : 50 < o ∧ o ≤ 82
      · simp only [mkM, if_neg (show ¬ n + o = n + 50 by omega), if_pos (show n + 50 < n + o ∧ n + o ≤ n + 50 + 32 by omega)]
        rw [hg]
        have e := init_m n (o - 51) (by omega)
        rw [show 51 + (o - 51) = o by omega] at e
        rw [← e]
        congr 1
        omega
      · simp only [mkM, if_neg (show ¬ n + o = n + 50 by omega), if_neg (show ¬ (n + 50 < n + o ∧ n + o ≤ n + 50 + 32) by omega)]
        rw [mkX_at, hg]
        by_cases h4 : o < 50
        · exact (init_x n o h4).symm
        · have e : ∀ (d : gA) (k : Nat), 50 ≤ k → xCell n (xs0 n) d k = d := by
            intro d k hk
            unfold xCell
            split <;> first | omega | rfl
          exact (e _ _ (by omega)).symm
