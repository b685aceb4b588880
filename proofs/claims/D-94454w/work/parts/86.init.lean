set_option maxRecDepth 100000
def frO : List Nat := [3, 4, 5, 6, 8, 9, 10, 11, 12, 23, 24, 45, 46]
def fz0 (n : Nat) : Fz := fun a => if n ≤ a ∧ a - n ∈ frO then some ((cells0 n).getD (a - n) gDead) else none
theorem fz0_at (n o : Nat) (h : o ∈ frO) : fz0 n (n + o) = some ((cells0 n).getD o gDead) := by
  unfold fz0
  rw [if_pos ⟨Nat.le_add_right _ _, by rw [Nat.add_sub_cancel_left]; exact h⟩, Nat.add_sub_cancel_left]
theorem fz0_off (n o : Nat) (h : o ∉ frO) : fz0 n (n + o) = none := by
  unfold fz0
  rw [if_neg (fun z => h (by have := z.2; rw [Nat.add_sub_cancel_left] at this; exact this))]
theorem e0 (i : Nat) : eRow ms0 i = if i = 4 ∨ i = 340 then -1 else 0 := by
  unfold eRow
  by_cases h : i = 4 ∨ i = 340
  · rw [if_pos ⟨rfl, h⟩, if_pos h]
  · rw [if_neg (fun z => h z.2), if_neg h]
    rfl
theorem e0_0 {i : Nat} (h : ¬ (i = 4 ∨ i = 340)) : eRow ms0 i = 0 := by rw [e0, if_neg h]
theorem e0_n {i : Nat} (h : ¬ (i = 4 ∨ i = 340)) : rN (eRow ms0) i = 0 := by unfold rN; rw [e0_0 h]; rfl
set_option maxHeartbeats 4000000 in
theorem init_rel (n : Nat) : Rel n (hL n (cells0 n) 229478) := by
  have hat : ∀ o, o < 84 → (hL n (cells0 n) 229478).1 (n + o) = (cells0 n).getD o gDead := by
    intro o ho
    unfold hL
    simp only [if_neg (Nat.not_lt.mpr (Nat.le_add_right n o)), Nat.add_sub_cancel_left]
  have n0 : rN (eRow ms0) 0 = 0 := e0_n (by decide)
  have n1 : rN (eRow ms0) 1 = 0 := e0_n (by decide)
  have n2 : rN (eRow ms0) 2 = 0 := e0_n (by decide)
  have n3 : rN (eRow ms0) 3 = 0 := e0_n (by decide)
  have z0 : eRow ms0 0 = 0 := e0_0 (by decide)
  have z1 : eRow ms0 1 = 0 := e0_0 (by decide)
  have z2 : eRow ms0 2 = 0 := e0_0 (by decide)
  have z3 : eRow ms0 3 = 0 := e0_0 (by decide)
  have z4 : eRow ms0 4 = -1 := by rw [e0]; rfl
  have z340 : eRow ms0 340 = -1 := by rw [e0]; rfl
  have z341 : eRow ms0 341 = 0 := e0_0 (by decide)
  have n341 : rN (eRow ms0) 341 = 0 := e0_n (by decide)
  have z462 : eRow ms0 462 = 0 := e0_0 (by decide)
  refine ⟨fz0 n, hL n (cells0 n) 229478, xs0 n, ms0, init_eq n _, ?_, ?_, rfl, rfl, Or.inl rfl, ?_, ?_, ?_, ?_, ?_, ?_, ?_, ?_⟩
  · refine ⟨Nat.le_refl _, fun a c h => ?_, fun o ho => fz0_off n o (fun z => ?_), fun a h1 h2 => ?_, ⟨fun _ => 0, ?_⟩, rfl, rfl, rfl, fun o ho => fz0_at n o ?_, fun k hk q hq => ?_, fun q hq => ?_⟩
    · unfold fz0 at h
      split at h
      · rename_i hc
        obtain ⟨o, rfl⟩ : ∃ o, a = n + o := ⟨a - n, by omega⟩
        rw [Nat.add_sub_cancel_left] at h hc
        have ho : o < 84 := by
          have := hc.2
          simp only [frO, List.mem_cons, List.not_mem_nil, or_false] at this
          omega
        cases h
        refine ⟨hat o ho, hc.1, ?_⟩
        show n + o < n + 84
        omega
      · cases h
    · simp only [mutO, List.mem_cons, List.not_mem_nil, or_false] at ho
      simp only [frO, List.mem_cons, List.not_mem_nil, or_false] at z
      omega
    · obtain ⟨o, rfl⟩ : ∃ o, a = n + o := ⟨a - n, by omega⟩
      refine fz0_off n o (fun z => ?_)
      simp only [frO, List.mem_cons, List.not_mem_nil, or_false] at z
      omega
    · rw [hat 83 (by decide)]
      rfl
    · simp only [List.mem_cons, List.not_mem_nil, or_false] at ho
      simp only [frO, List.mem_cons, List.not_mem_nil, or_false]
      omega
    · obtain ⟨a, ho, ha, an, v, e1, -⟩ := hq
      cases e1
    · obtain ⟨a, ho, ha, an, v, e1, -⟩ := hq
      cases e1
  · exact ⟨rfl, rfl, Nat.zero_le _, fun i hi => ⟨by show (0 : Int32) = (0 : Int32) &&& 255; decide, by show (0 : Int32) = (0 : Int32).toInt8.toInt32; decide⟩⟩
  · refine ⟨n + 8, n + 23, rfl, rfl, ?_, ?_, fun d hd => ?_, fun d hd => ?_, ?_, ?_, ?_, Or.inl ⟨rfl, z462⟩⟩
    · refine ⟨n + 9, n + 10, n + 11, n + 12, _, _, _, _, ?_, fz0_at n 9 (by decide), fz0_at n 10 (by decide), fz0_at n 11 (by decide), fz0_at n 12 (by decide), fun x y hx => ?_, fun k hk => ?_, fun d hd => ?_, fun d h e hd => ?_⟩
      · rw [fz0_at n 8 (by decide), z0, z1, z2, z3, z4]
        rfl
      · rw [n0] at hx; omega
      · rw [n3] at hk; omega
      · rw [n2] at hd; omega
      · rw [n2] at hd; omega
    · refine ⟨by rw [n0, z0]; exact ⟨rfl, by omega⟩, by rw [n1, z1]; exact ⟨rfl, by omega⟩, by rw [n2, z2]; exact ⟨rfl, by omega⟩, by rw [n3, z3]; exact ⟨rfl, by omega⟩, Or.inl z4, fun d hd => ?_, fun x y hx => ?_, fun k hk => ?_⟩
      · rw [n2] at hd; omega
      · rw [n0] at hx; omega
      · rw [n3] at hk; omega
    · rw [n2] at hd; omega
    · rw [n2] at hd; omega
    · rw [z340]; rfl
    · refine ⟨fun d hd => ?_, fun d e hd => ?_, Or.inl rfl⟩
      · rw [n2] at hd; omega
      · rw [n2] at hd; omega
    · refine ⟨n + 24, _, ?_, fz0_at n 24 (by decide), by rw [z341, n341]; rfl, by rw [n341]; omega, fun i hi => ?_⟩
      · rw [fz0_at n 23 (by decide), z341]
        rfl
      · rw [n341] at hi; omega
  · intro k hk
    exact Or.inl ⟨rfl, rfl⟩
  · exact ⟨rfl, rfl, Nat.zero_le _, fun i hi => absurd hi (Nat.not_lt_zero i)⟩
  · exact ⟨rfl, rfl, Nat.zero_le _, fun i hi => absurd hi (Nat.not_lt_zero i)⟩
  · exact ⟨rfl, rfl, Nat.zero_le _, fun i hi => absurd hi (Nat.not_lt_zero i)⟩
  · exact ⟨rfl, rfl, Nat.zero_le _, fun i hi => absurd hi (Nat.not_lt_zero i)⟩
  · exact fun i hi => absurd hi (Nat.not_lt_zero i)
  · refine Or.inl ⟨rfl, fun i hi => ?_⟩
    rcases (show i = 0 ∨ i = 1 ∨ i = 2 ∨ i = 3 ∨ i = 4 by omega) with rfl | rfl | rfl | rfl | rfl <;> rfl
