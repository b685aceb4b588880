set_option maxRecDepth 100000
theorem op_step {n : Nat} {h : gH} (R : Rel n h) (op : Int32) (a : Nat → Int32) : OpOk n h (LSt n (n + 50) (n + 83) op a) := by
  unfold LSt
  by_cases q0 : op = 0
  · obtain ⟨h1, s1, r1⟩ := op_0 R a
    exact ⟨h1, by dsimp only; rw [if_pos q0]; exact s1, r1⟩
  simp only [if_neg q0]
  by_cases q1 : op = 1
  · obtain ⟨h1, s1, r1⟩ := op_1 R a
    exact ⟨h1, by dsimp only; rw [if_pos q1]; exact s1, r1⟩
  simp only [if_neg q1]
  by_cases q2 : op = 2
  · obtain ⟨h1, s1, r1⟩ := op_2 R a
    exact ⟨h1, by dsimp only; rw [if_pos q2]; exact s1, r1⟩
  simp only [if_neg q2]
  by_cases q3 : op = 3
  · obtain ⟨h1, s1, r1⟩ := op_3 R a
    exact ⟨h1, by dsimp only; rw [if_pos q3]; exact s1, r1⟩
  simp only [if_neg q3]
  by_cases q4 : op = 4
  · obtain ⟨h1, s1, r1⟩ := op_4 R a
    exact ⟨h1, by dsimp only; rw [if_pos q4]; exact s1, r1⟩
  simp only [if_neg q4]
  by_cases q5 : op = 5
  · obtain ⟨h1, s1, r1⟩ := op_5 R a
    exact ⟨h1, by dsimp only; rw [if_pos q5]; exact s1, r1⟩
  simp only [if_neg q5]
  by_cases q6 : op = 6
  · obtain ⟨h1, s1, r1⟩ := op_6 R a
    exact ⟨h1, by dsimp only; rw [if_pos q6]; exact s1, r1⟩
  simp only [if_neg q6]
  by_cases q7 : op = 7
  · obtain ⟨h1, s1, r1⟩ := op_7 R a
    exact ⟨h1, by dsimp only; rw [if_pos q7]; exact s1, r1⟩
  simp only [if_neg q7]
  by_cases q8 : op = 8
  · obtain ⟨h1, s1, r1⟩ := op_8 R a
    exact ⟨h1, by dsimp only; rw [if_pos q8]; exact s1, r1⟩
  simp only [if_neg q8]
  by_cases q9 : op = 9
  · obtain ⟨h1, s1, r1⟩ := op_9 R a
    exact ⟨h1, by dsimp only; rw [if_pos q9]; exact s1, r1⟩
  simp only [if_neg q9]
  by_cases q10 : op = 10
  · obtain ⟨h1, s1, r1⟩ := op_10 R a
    exact ⟨h1, by dsimp only; rw [if_pos q10]; exact s1, r1⟩
  simp only [if_neg q10]
  by_cases q11 : op = 11
  · obtain ⟨h1, s1, r1⟩ := op_11 R a
    exact ⟨h1, by dsimp only; rw [if_pos q11]; exact s1, r1⟩
  simp only [if_neg q11]
  by_cases q12 : op = 12
  · obtain ⟨h1, s1, r1⟩ := op_12 R a
    exact ⟨h1, by dsimp only; rw [if_pos q12]; exact s1, r1⟩
  simp only [if_neg q12]
  by_cases q13 : op = 13
  · obtain ⟨h1, s1, r1⟩ := op_13 R a
    exact ⟨h1, by dsimp only; rw [if_pos q13]; exact s1, r1⟩
  simp only [if_neg q13]
  by_cases q14 : op = 14
  · obtain ⟨h1, s1, r1⟩ := op_14 R a
    exact ⟨h1, by dsimp only; rw [if_pos q14]; exact s1, r1⟩
  simp only [if_neg q14]
  by_cases q15 : op = 15
  · obtain ⟨h1, s1, r1⟩ := op_15 R a
    exact ⟨h1, by dsimp only; rw [if_pos q15]; exact s1, r1⟩
  simp only [if_neg q15]
  by_cases q16 : op = 16
  · obtain ⟨h1, s1, r1⟩ := op_16 R a
    exact ⟨h1, by dsimp only; rw [if_pos q16]; exact s1, r1⟩
  simp only [if_neg q16]
  by_cases q17 : op = 17
  · obtain ⟨h1, s1, r1⟩ := op_17 R a
    exact ⟨h1, by dsimp only; rw [if_pos q17]; exact s1, r1⟩
  simp only [if_neg q17]
  by_cases q18 : op = 18
  · obtain ⟨h1, s1, r1⟩ := op_18 R a
    exact ⟨h1, by dsimp only; rw [if_pos q18]; exact s1, r1⟩
  simp only [if_neg q18]
  by_cases q19 : op = 19
  · obtain ⟨h1, s1, r1⟩ := op_19 R a
    exact ⟨h1, by dsimp only; rw [if_pos q19]; exact s1, r1⟩
  simp only [if_neg q19]
  by_cases q20 : op = 20
  · obtain ⟨h1, s1, r1⟩ := op_20 R a
    exact ⟨h1, by dsimp only; rw [if_pos q20]; exact s1, r1⟩
  simp only [if_neg q20]
  by_cases q21 : op = 21
  · obtain ⟨h1, s1, r1⟩ := op_21 R a
    exact ⟨h1, by dsimp only; rw [if_pos q21]; exact s1, r1⟩
  simp only [if_neg q21]
  by_cases q22 : op = 22
  · obtain ⟨h1, s1, r1⟩ := op_22 R a
    exact ⟨h1, by dsimp only; rw [if_pos q22]; exact s1, r1⟩
  simp only [if_neg q22]
  by_cases q23 : op = 23
  · obtain ⟨h1, s1, r1⟩ := op_23 R a
    exact ⟨h1, by dsimp only; rw [if_pos q23]; exact s1, r1⟩
  simp only [if_neg q23]
  by_cases q24 : op = 24
  · obtain ⟨h1, s1, r1⟩ := op_24 R a
    exact ⟨h1, by dsimp only; rw [if_pos q24]; exact s1, r1⟩
  simp only [if_neg q24]
  by_cases q25 : op = 25
  · obtain ⟨h1, s1, r1⟩ := op_25 R a
    exact ⟨h1, by dsimp only; rw [if_pos q25]; exact s1, r1⟩
  simp only [if_neg q25]
  by_cases q26 : op = 26
  · obtain ⟨h1, s1, r1⟩ := op_26 R a
    exact ⟨h1, by dsimp only; rw [if_pos q26]; exact s1, r1⟩
  simp only [if_neg q26]
  by_cases q27 : op = 27
  · obtain ⟨h1, s1, r1⟩ := op_27 R a
    exact ⟨h1, by dsimp only; rw [if_pos q27]; exact s1, r1⟩
  simp only [if_neg q27]
  by_cases q28 : op = 28
  · obtain ⟨h1, s1, r1⟩ := op_28 R a
    exact ⟨h1, by dsimp only; rw [if_pos q28]; exact s1, r1⟩
  simp only [if_neg q28]
  by_cases q29 : op = 29
  · obtain ⟨h1, s1, r1⟩ := op_29 R a
    exact ⟨h1, by dsimp only; rw [if_pos q29]; exact s1, r1⟩
  simp only [if_neg q29]
  by_cases q30 : op = 30
  · obtain ⟨h1, s1, r1⟩ := op_30 R a
    exact ⟨h1, by dsimp only; rw [if_pos q30]; exact s1, r1⟩
  simp only [if_neg q30]
  by_cases q31 : op = 31
  · obtain ⟨h1, s1, r1⟩ := op_31 R a
    exact ⟨h1, by dsimp only; rw [if_pos q31]; exact s1, r1⟩
  simp only [if_neg q31]
  by_cases q32 : op = 32
  · obtain ⟨h1, s1, r1⟩ := op_32 R a
    exact ⟨h1, by dsimp only; rw [if_pos q32]; exact s1, r1⟩
  simp only [if_neg q32]
  by_cases q33 : op = 33
  · obtain ⟨h1, s1, r1⟩ := op_33 R a
    exact ⟨h1, by dsimp only; rw [if_pos q33]; exact s1, r1⟩
  simp only [if_neg q33]
  by_cases q34 : op = 34
  · obtain ⟨h1, s1, r1⟩ := op_34 R a
    exact ⟨h1, by dsimp only; rw [if_pos q34]; exact s1, r1⟩
  simp only [if_neg q34]
  by_cases q35 : op = 35
  · obtain ⟨h1, s1, r1⟩ := op_35 R a
    exact ⟨h1, by dsimp only; rw [if_pos q35]; exact s1, r1⟩
  simp only [if_neg q35]
  by_cases q36 : op = 36
  · obtain ⟨h1, s1, r1⟩ := op_36 R a
    exact ⟨h1, by dsimp only; rw [if_pos q36]; exact s1, r1⟩
  simp only [if_neg q36]
  by_cases q37 : op = 37
  · obtain ⟨h1, s1, r1⟩ := op_37 R a
    exact ⟨h1, by dsimp only; rw [if_pos q37]; exact s1, r1⟩
  simp only [if_neg q37]
  by_cases q38 : op = 38
  · obtain ⟨h1, s1, r1⟩ := op_38 R a
    exact ⟨h1, by dsimp only; rw [if_pos q38]; exact s1, r1⟩
  simp only [if_neg q38]
  by_cases q39 : op = 39
  · obtain ⟨h1, s1, r1⟩ := op_39 R a
    exact ⟨h1, by dsimp only; rw [if_pos q39]; exact s1, r1⟩
  simp only [if_neg q39]
  by_cases q40 : op = 40
  · obtain ⟨h1, s1, r1⟩ := op_40 R a
    exact ⟨h1, by dsimp only; rw [if_pos q40]; exact s1, r1⟩
  simp only [if_neg q40]
  by_cases q41 : op = 41
  · obtain ⟨h1, s1, r1⟩ := op_41 R a
    exact ⟨h1, by dsimp only; rw [if_pos q41]; exact s1, r1⟩
  simp only [if_neg q41]
  exact ⟨h, rfl, R, by omega, by omega⟩
theorem LR_ex {n : Nat} {xs : Nat → Int32} : ∀ (k i : Nat) (h : gH), Rel n h → ∃ h', LR n (n + 50) (n + 83) xs k i h h' ∧ h'.2.1 ≤ h.2.1 + 9000 * k ∧ h'.2.2 ≤ h.2.2 + 100000 * k
  | 0, i, h, R => ⟨h, rfl, by omega, by omega⟩
  | k + 1, i, h, R => by
    obtain ⟨h1, s1, r1, a1, b1⟩ := op_step R (xs i &&& 63) (fun k => xs (i + k))
    obtain ⟨h2, s2, a2, b2⟩ := LR_ex (xs := xs) k (i + 6) h1 r1
    exact ⟨h2, ⟨h1, s1, s2⟩, by omega, by omega⟩
theorem law_runs (n : Nat) (xs : Nat → Int32) (L : Nat) (hL0 : L ≤ 384) : ∃ h', LawRun xs L (h00 n) h' ∧ h'.2.1 ≤ n + 601024 ∧ h'.2.2 ≤ 7293034 := by
  obtain ⟨h2, s2, a2, b2⟩ := LR_ex (xs := xs) (L / 6) 0 (hL n (cells0 n) 229478) (init_rel n)
  refine ⟨h2, ⟨n, n + 50, n + 83, _, PL_runs n, s2⟩, ?_, ?_⟩
  · have e : (hL n (cells0 n) 229478).2.1 = n + 84 := rfl
    omega
  · have e : (hL n (cells0 n) 229478).2.2 = 229478 := rfl
    omega
