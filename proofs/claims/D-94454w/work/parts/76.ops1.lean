set_option maxRecDepth 100000
theorem mk_comm (n : Nat) (g : gH) (xs : XS) (ms : MS) : mkM (n + 50) (mkX n g xs) ms = mkX n (mkM (n + 50) g ms) xs := by
  refine Prod.ext ?_ rfl
  funext a
  by_cases h1 : a < n
  · simp only [mkM, if_neg (show ¬ a = n + 50 by omega), if_neg (show ¬ (n + 50 < a ∧ a ≤ n + 50 + 32) by omega), mkX, if_pos h1]
  · obtain ⟨o, rfl⟩ : ∃ o, a = n + o := ⟨a - n, by omega⟩
    rw [mkX_at]
    by_cases h2 : 50 ≤ o ∧ o ≤ 82
    · have hm : o ∉ mutO := by
        intro hm
        simp only [mutO, List.mem_cons, List.not_mem_nil, or_false] at hm
        omega
      rw [xCell_else hm]
      simp only [mkM]
      by_cases h3 : n + o = n + 50
      · simp only [if_pos h3]
      · simp only [if_neg h3, if_pos (show n + 50 < n + o ∧ n + o ≤ n + 50 + 32 by omega)]
    · simp only [mkM, if_neg (show ¬ n + o = n + 50 by omega), if_neg (show ¬ (n + 50 < n + o ∧ n + o ≤ n + 50 + 32) by omega)]
      rw [mkX_at]
theorem OpOk.of {n : Nat} {F' : Fz} {g g' : gH} {xs xs' : XS} {ms ms' : MS} {α : Type} {f : Mo α} {T : TM α} {v : α} (e1 : f.1 (mkX n (mkM (n + 50) g ms) xs) = some (v, mkX n (mkM (n + 50) g' ms) xs')) (e2 : T ms = some (v, ms')) (R' : RelC n F' g' xs' ms') (s1 : g'.2.1 ≤ g.2.1 + 9000) (s2 : g'.2.2 ≤ g.2.2 + 100000) : OpOk n (mkM (n + 50) (mkX n g xs) ms) (LS2 (n + 50) f T) := by
  refine ⟨mkM (n + 50) (mkX n g' xs') ms', ⟨v, _, mkX n g' xs', ms, ms', ?_, rfl, e2, rfl⟩, ⟨F', g', xs', ms', rfl, R'⟩, s1, s2⟩
  rw [mk_comm, e1, ← mk_comm]
def relI : List Nat := [2, 10, 22, 23, 37, 38, 42, 57]
def relA : List Nat := [1, 14, 17, 21, 35, 36, 41, 48, 54]
theorem RelC.ms {n : Nat} {F : Fz} {g : gH} {xs : XS} {ms ms' : MS} (R : RelC n F g xs ms) (h1 : ∀ k ∈ relI, ms'.1 k = ms.1 k) (h2 : ∀ k ∈ relA, ms'.2.2.1 k = ms.2.2.1 k) (h3 : ∀ k ∈ [18, 20], ms'.2.2.2 k = ms.2.2.2 k) : RelC n F g xs ms' := by
  have e14 := h2 14 (by decide)
  have hr : eRow ms' = eRow ms := by funext i; unfold eRow; rw [h1 22 (by decide), e14]
  have hk : ∀ k, kRow ms' k = kRow ms k := fun k => by funext i; unfold kRow; rw [h2 17 (by decide)]
  obtain ⟨r1, r2, r3, r4, r5, r6, r7, r8, r9, r10, r11, r12, r13⟩ := R
  refine ⟨r1, ?_, ?_, ?_, ?_, ?_, ?_, ?_, ?_, ?_, ?_, r12, ?_⟩
  · rw [h1 2 (by decide), h2 1 (by decide)]; exact r2
  · rw [h1 10 (by decide)]; exact r3
  · rw [h1 23 (by decide)]; exact r4
  · rw [h1 22 (by decide)]; exact r5
  · rw [hr, h3 18 (by decide)]; exact r6
  · intro k hk2; rw [hk, h3 20 (by decide), h2 21 (by decide)]; exact r7 k hk2
  · rw [h1 38 (by decide), h2 35 (by decide)]; exact r8
  · rw [h1 37 (by decide), h2 36 (by decide)]; exact r9
  · rw [h1 42 (by decide), h2 41 (by decide)]; exact r10
  · rw [h1 57 (by decide), h2 54 (by decide)]; exact r11
  · rw [h2 48 (by decide)]; exact r13
theorem RelC.t0 {n : Nat} {F : Fz} {g : gH} {xs : XS} {ms : MS} (R : RelC n F g xs ms) (v : Int32) : RelC n F g xs (uI ms 0 v) :=
  R.ms (fun k hk => by have : k ≠ 0 := fun e => by subst e; exact absurd hk (by decide)
                       simp [uI, va_up, this]) (fun _ _ => rfl) (fun _ _ => rfl)
/-- behind lay() -/
def lyd (ms : MS) : MS := if ms.1 22 = 1 then ms else uA (uA (uI ms 22 1) 14 4 (-1)) 14 340 (-1)
theorem lay_run {ms : MS} (h : ms.1 22 = 0 ∨ ms.1 22 = 1) : M_X10_lay ms = some ((), lyd ms) := by
  unfold M_X10_lay
  rcases h with h | h
  · rw [te_Z (v := false) h]
    simp only [cond_false]
    rw [te_sI, te_sA (by decide), te_sA (by decide)]
    unfold lyd
    rw [if_neg (by rw [h]; decide)]
    rfl
  · rw [te_Z (v := true) h]
    unfold lyd
    rw [if_pos h]
    rfl
theorem lyd_row {ms : MS} (h : ms.1 22 = 0 ∨ ms.1 22 = 1) : (lyd ms).2.2.1 14 = eRow ms ∧ (lyd ms).1 22 = 1 := by
  unfold lyd
  rcases h with h | h
  · rw [if_neg (by rw [h]; decide)]
    refine ⟨?_, by simp [uA, uI, va_up]⟩
    funext i
    simp only [uA, uI, va_up, eRow, h]
    by_cases h4 : i = 4
    · simp [va_up, h4]
    · by_cases h5 : i = 340
      · simp [va_up, h5]
      · simp [va_up, h4, h5]
  · rw [if_pos h]
    refine ⟨?_, h⟩
    funext i
    unfold eRow
    rw [if_neg (by rw [h]; simp)]
theorem lyd_same {ms : MS} : (∀ k, k ≠ 22 → (lyd ms).1 k = ms.1 k) ∧ (∀ k, k ≠ 14 → (lyd ms).2.2.1 k = ms.2.2.1 k) ∧ (lyd ms).2.2.2 = ms.2.2.2 ∧ (lyd ms).2.1 = ms.2.1 := by
  unfold lyd
  split
  · exact ⟨fun _ _ => rfl, fun _ _ => rfl, rfl, rfl⟩
  · refine ⟨fun k hk => by simp [uA, uI, va_up, hk], fun k hk => by simp [uA, uI, va_up, hk], rfl, rfl⟩
theorem eRow_begun {ms : MS} (h : ms.1 22 = 1) : eRow ms = ms.2.2.1 14 := by
  funext i
  unfold eRow
  rw [if_neg (by rw [h]; simp)]
theorem RelC.lyd {n : Nat} {F : Fz} {g : gH} {xs : XS} {ms : MS} (R : RelC n F g xs ms) : RelC n F g xs (lyd ms) := by
  obtain ⟨r1, r2, r3, r4, r5, r6, r7, r8, r9, r10, r11, r12, r13⟩ := R
  obtain ⟨l1, l2⟩ := lyd_row r5
  obtain ⟨s1, s2, s3, -⟩ := lyd_same (ms := ms)
  have hr : eRow (_root_.Jvm.Pilot.CBitingDoorsLaw_law_r9764_187f91.lyd ms) = eRow ms := by rw [eRow_begun l2, l1]
  have hk : ∀ k, kRow (_root_.Jvm.Pilot.CBitingDoorsLaw_law_r9764_187f91.lyd ms) k = kRow ms k := fun k => by funext i; unfold kRow; rw [s2 17 (by decide)]
  refine ⟨r1, ?_, ?_, ?_, Or.inr l2, ?_, ?_, ?_, ?_, ?_, ?_, r12, ?_⟩
  · rw [s1 2 (by decide), s2 1 (by decide)]; exact r2
  · rw [s1 10 (by decide)]; exact r3
  · rw [s1 23 (by decide)]; exact r4
  · rw [hr, s3]; exact r6
  · intro k hk2; rw [hk, s3, s2 21 (by decide)]; exact r7 k hk2
  · rw [s1 38 (by decide), s2 35 (by decide)]; exact r8
  · rw [s1 37 (by decide), s2 36 (by decide)]; exact r9
  · rw [s1 42 (by decide), s2 41 (by decide)]; exact r10
  · rw [s1 57 (by decide), s2 54 (by decide)]; exact r11
  · rw [s2 48 (by decide)]; exact r13
def isInB (a b c : Int32) : Bool := !decide (a < b) && !decide (c < a)
theorem isIn_run (a b c : Int32) (h : gH) : (M_X1_isIn a b c).1 h = some (isInB a b c, h) := by
  unfold M_X1_isIn isInB
  by_cases h1 : a < b
  · simp [h1]; rfl
  · by_cases h2 : c < a
    · simp [h1, h2]; rfl
    · simp [h1, h2]; rfl
theorem isIn_runT (a b c : Int32) (m : MS) : M_X10_isIn a b c m = some (isInB a b c, m) := by
  unfold M_X10_isIn isInB
  by_cases h1 : a < b
  · simp [h1]; rfl
  · by_cases h2 : c < a
    · simp [h1, h2]; rfl
    · simp [h1, h2]; rfl
/-- between 0 and n - 1, for a number n -/
theorem isInB_n {p : Int32} {n : Nat} (hn : n < 2 ^ 31) : isInB p 0 (nI n - 1) = true ↔ p = nI p.toNatClampNeg ∧ p.toNatClampNeg < n := by
  have e1 : (nI n - 1).toInt = (n : Int) - 1 := by
    rw [Int32.toInt_sub, nI_toInt hn]
    show ((n : Int) - 1).bmod (2 ^ 32) = _
    rw [Int.bmod_eq_of_le] <;> omega
  unfold isInB
  simp only [Bool.and_eq_true, Bool.not_eq_true', decide_eq_false_iff_not]
  constructor
  · rintro ⟨h1, h2⟩
    obtain ⟨h3, h4⟩ := nI_self h1
    refine ⟨h3, ?_⟩
    have h5 : ¬ ((n : Int) - 1 < p.toInt) := fun z => h2 (by rw [Int32.lt_iff_toInt_lt, e1]; exact z)
    have h6 : p.toInt = (p.toNatClampNeg : Int) := by
      conv => lhs; rw [h3]
      exact nI_toInt h4
    omega
  · rintro ⟨h1, h2⟩
    have h3 : p.toNatClampNeg < 2 ^ 31 := by omega
    have h6 : p.toInt = (p.toNatClampNeg : Int) := by
      conv => lhs; rw [h1]
      exact nI_toInt h3
    refine ⟨by rw [h1]; exact nI_pos h3, ?_⟩
    rw [Int32.lt_iff_toInt_lt, e1]
    omega
theorem op_3 {n : Nat} {h : gH} (R : Rel n h) (a : Nat → Int32) : OpOk n h (LS_3 n (n + 50) (n + 83) a) := by
  obtain ⟨F, g, xs, ms, rfl, R⟩ := R
  refine OpOk.of (v := xs.1 14) (xs' := xs) (g' := g) (by unfold M_X1_fault; rw [x_chk, x_I14]; rfl) (ms' := uI ms 0 0) ?_ (R.t0 0) (by omega) (by omega)
  unfold M_X10_fault
  rw [te_sI, te_I, R.2.2.1]
  rfl
theorem op_26 {n : Nat} {h : gH} (R : Rel n h) (a : Nat → Int32) : OpOk n h (LS_26 n (n + 50) (n + 83) a) := by
  obtain ⟨F, g, xs, ms, rfl, R⟩ := R
  refine OpOk.of (v := xs.2.2.2.1 0 4) (xs' := xs) (g' := g) (by unfold M_X1_minutes; rw [x_chk, x_R9, x_w0I4]; rfl) (ms' := uI ms 0 0) ?_ (R.t0 0) (by omega) (by omega)
  unfold M_X10_minutes
  rw [te_sI, te_I, R.2.2.2.1]
  rfl
theorem op_24 {n : Nat} {h : gH} (R : Rel n h) (a : Nat → Int32) : OpOk n h (LS_24 n (n + 50) (n + 83) a) := by
  obtain ⟨F, g, xs, ms, rfl, R⟩ := R
  have R0 := R.t0 0
  obtain ⟨ho, dy, -, -, hA⟩ := R0.2.2.2.2.2.1
  refine OpOk.of (v := xs.2.2.2.1 0 3) (xs' := xs) (g' := g) (by unfold M_X1_place; rw [x_chk, x_R9, x_w0I3]; rfl) (ms' := lyd (uI ms 0 0)) ?_ R0.lyd (by omega) (by omega)
  unfold M_X10_place
  rw [te_sI, t_of (lay_run R0.2.2.2.2.1), te_A (by decide), (lyd_row R0.2.2.2.2.1).1]
  show some (eRow (uI ms 0 0) 340, _) = _
  rw [hA.2.2.2.2.1]
