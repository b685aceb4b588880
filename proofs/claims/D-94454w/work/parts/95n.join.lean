set_option maxRecDepth 100000
/-! ===== sets of doors as numbers ===== -/
def mkS (L : List Nat) : Nat := L.foldl (fun v d => v ||| 2 ^ d) 0
theorem mkS_fold : ∀ (L : List Nat) (v d : Nat), (L.foldl (fun v d => v ||| 2 ^ d) v).testBit d = (v.testBit d || decide (d ∈ L))
  | [], v, d => by simp
  | x :: L, v, d => by
    rw [List.foldl_cons, mkS_fold L, testBit_or]
    by_cases z : d = x
    · simp [z]
    · simp [z]
theorem mkS_bit (L : List Nat) (d : Nat) : (mkS L).testBit d = decide (d ∈ L) := by
  unfold mkS
  rw [mkS_fold]
  simp
theorem mkS_app (L : List Nat) (d : Nat) : mkS (L ++ [d]) = mkS L ||| 2 ^ d := by
  unfold mkS
  rw [List.foldl_append]
  rfl
theorem bits_lt {s n : Nat} (h : ∀ i, n ≤ i → s.testBit i = false) : s < 2 ^ n := by
  refine Nat.lt_pow_two_of_testBit s fun i hi => h i hi
theorem mkS_lt {L : List Nat} {n : Nat} (h : ∀ d ∈ L, d < n) : mkS L < 2 ^ n := bits_lt fun i hi => by
  rw [mkS_bit]
  exact decide_eq_false fun z => by have := h i z; omega
theorem bit_ext {s t : Nat} (h : ∀ d, s.testBit d = t.testBit d) : s = t := Nat.eq_of_testBit_eq h
/-- s is wthin A -/
def wthin (s A : Nat) : Prop := ∀ d, s.testBit d = true → A.testBit d = true
theorem wthin_nI {s A : Nat} (hs : s < 1024) (hA : A < 1024) : (nI s &&& (nI A ^^^ -nI 1) = nI 0) ↔ wthin s A := by
  have bit : ∀ x : Nat, x < 1024 → ∀ i : Nat, i < 32 → (nI x).toBitVec.getLsbD i = x.testBit i := fun x hx i hi => by
    show (BitVec.ofNat 32 x).getLsbD i = _
    rw [BitVec.getLsbD_ofNat]
    simp [hi]
  have m1 : ∀ i : Nat, i < 32 → (-nI 1).toBitVec.getLsbD i = true := by decide
  constructor
  · intro e d hd
    have hd32 : d < 32 := by
      apply Classical.byContradiction
      intro z
      have : s.testBit d = false := Nat.testBit_lt_two_pow (Nat.lt_of_lt_of_le (show s < 2 ^ 10 from hs) (Nat.pow_le_pow_right (by decide) (by omega)))
      rw [this] at hd; cases hd
    have h1 := congrArg (fun z => z.toBitVec.getLsbD d) e
    simp only [Int32.toBitVec_and, Int32.toBitVec_xor, BitVec.getLsbD_and, BitVec.getLsbD_xor, bit s hs d hd32, bit A hA d hd32, m1 d hd32, bit 0 (by decide) d hd32] at h1
    rw [hd] at h1
    simpa using h1
  · intro h
    apply Int32.toBitVec_inj.mp
    apply BitVec.eq_of_getLsbD_eq
    intro i hi
    simp only [Int32.toBitVec_and, Int32.toBitVec_xor, BitVec.getLsbD_and, BitVec.getLsbD_xor, bit s hs i hi, bit A hA i hi, m1 i hi, bit 0 (by decide) i hi]
    have := h i
    cases hs' : s.testBit i with
    | false => simp
    | true => rw [this hs']; simp
theorem wthin_or {s A d : Nat} (h : wthin s A) (hd : A.testBit d = true) : wthin (s ||| 2 ^ d) A := by
  intro e he
  rw [testBit_or] at he
  by_cases z : e = d
  · rw [z]; exact hd
  · simp only [z, decide_false, Bool.or_false] at he; exact h e he
/-! ===== the numbers of changed doors ===== -/
def chF (r : Row) (B : Nat → Nat) (i : Nat) : List Nat := (List.range i).filter (fun d => decide (B d ≠ hgN r d))
theorem chF_succ (r : Row) (B : Nat → Nat) (i : Nat) : chF r B (i + 1) = if B i = hgN r i then chF r B i else chF r B i ++ [i] := by
  unfold chF
  rw [List.range_succ, List.filter_append]
  by_cases z : B i = hgN r i
  · simp [z]
  · simp [z]
theorem chF_lt {r : Row} {B : Nat → Nat} {i d : Nat} (h : d ∈ chF r B i) : d < i := by
  unfold chF at h
  exact List.mem_range.mp (List.mem_filter.mp h).1
theorem chF_len (r : Row) (B : Nat → Nat) (i : Nat) : (chF r B i).length ≤ i := by
  unfold chF
  have := List.length_filter_le (fun d => decide (B d ≠ hgN r d)) (List.range i)
  rw [List.length_range] at this
  exact this
theorem chF_up (r : Row) (B : Nat → Nat) (i : Nat) : (chF r B i).Pairwise (· < ·) := by
  unfold chF
  exact List.Pairwise.filter _ List.pairwise_lt_range
/-- the set of doors behind a set of numbers of changed doors -/
def expS (L : List Nat) (t : Nat) : Nat := mkS (((List.range L.length).filter (fun k => t.testBit k)).map (fun k => L.getD k 0))
theorem expS_bit (L : List Nat) (t d : Nat) : (expS L t).testBit d = true ↔ ∃ k, k < L.length ∧ t.testBit k = true ∧ L.getD k 0 = d := by
  unfold expS
  rw [mkS_bit, decide_eq_true_eq, List.mem_map]
  constructor
  · rintro ⟨k, hk, rfl⟩
    obtain ⟨h1, h2⟩ := List.mem_filter.mp hk
    exact ⟨k, List.mem_range.mp h1, h2, rfl⟩
  · rintro ⟨k, h1, h2, rfl⟩
    exact ⟨k, List.mem_filter.mpr ⟨List.mem_range.mpr h1, h2⟩, rfl⟩
theorem getD_mem {L : List Nat} {k : Nat} (h : k < L.length) : L.getD k 0 ∈ L := by
  rw [List.getD_eq_getElem?_getD, List.getElem?_eq_getElem h]
  exact List.getElem_mem h
theorem getD_lt {L : List Nat} (hL : L.Pairwise (· < ·)) {j k : Nat} (hj : j < k) (hk : k < L.length) : L.getD j 0 < L.getD k 0 := by
  have e : ∀ i (hi : i < L.length), L.getD i 0 = L[i] := fun i hi => by rw [List.getD_eq_getElem?_getD, List.getElem?_eq_getElem hi]; rfl
  rw [e k hk, e j (by omega)]
  exact List.pairwise_iff_getElem.mp hL j k (by omega) hk hj
theorem getD_inj {L : List Nat} (hL : L.Pairwise (· < ·)) {j k : Nat} (hj : j < L.length) (hk : k < L.length) (e : L.getD j 0 = L.getD k 0) : j = k := by
  rcases Nat.lt_trichotomy j k with z | z | z
  · have := getD_lt hL z hk; omega
  · exact z
  · have := getD_lt hL z hj; omega
theorem mem_getD {L : List Nat} {d : Nat} (h : d ∈ L) : ∃ k, k < L.length ∧ L.getD k 0 = d := by
  obtain ⟨k, hk, e⟩ := List.getElem_of_mem h
  exact ⟨k, hk, by rw [List.getD_eq_getElem?_getD, List.getElem?_eq_getElem hk]; exact e⟩
theorem expS_has {L : List Nat} (hL : L.Pairwise (· < ·)) {t k : Nat} (hk : k < L.length) : (expS L t).testBit (L.getD k 0) = t.testBit k := by
  rw [Bool.eq_iff_iff, expS_bit]
  constructor
  · rintro ⟨j, h1, h2, h3⟩
    rw [← getD_inj hL h1 hk h3]; exact h2
  · intro h; exact ⟨k, hk, h, rfl⟩
theorem expS_or {L : List Nat} {t k : Nat} (hk : k < L.length) : expS L (t ||| 2 ^ k) = expS L t ||| 2 ^ (L.getD k 0) := by
  refine bit_ext fun d => ?_
  rw [Bool.eq_iff_iff, expS_bit, testBit_or, Bool.or_eq_true, expS_bit, decide_eq_true_eq]
  constructor
  · rintro ⟨j, h1, h2, h3⟩
    rw [testBit_or, Bool.or_eq_true, decide_eq_true_eq] at h2
    rcases h2 with h2 | h2
    · exact Or.inl ⟨j, h1, h2, h3⟩
    · right; rw [← h3, h2]
  · rintro (⟨j, h1, h2, h3⟩ | h)
    · exact ⟨j, h1, by rw [testBit_or, h2]; rfl, h3⟩
    · exact ⟨k, hk, by rw [testBit_or]; simp, h.symm⟩
theorem expS_within (L : List Nat) (t : Nat) : wthin (expS L t) (mkS L) := by
  intro d hd
  obtain ⟨k, h1, h2, rfl⟩ := (expS_bit L t d).mp hd
  rw [mkS_bit]
  exact decide_eq_true (getD_mem h1)
theorem expS_full {L : List Nat} (hL : L.Pairwise (· < ·)) {t : Nat} (ht : t < 2 ^ L.length) : expS L t = mkS L ↔ t = 2 ^ L.length - 1 := by
  constructor
  · intro e
    refine bit_ext fun k => ?_
    rw [Nat.testBit_two_pow_sub_one]
    by_cases hk : k < L.length
    · rw [← expS_has hL (t := t) hk, e, mkS_bit]
      simp [hk, getD_mem hk]
    · rw [Nat.testBit_lt_two_pow (Nat.lt_of_lt_of_le ht (Nat.pow_le_pow_right (by decide) (by omega)))]
      simp [hk]
  · intro e
    refine bit_ext fun d => ?_
    rw [Bool.eq_iff_iff, expS_bit, mkS_bit, decide_eq_true_eq, e]
    constructor
    · rintro ⟨k, h1, h2, rfl⟩; exact getD_mem h1
    · intro h
      obtain ⟨k, h1, h2⟩ := mem_getD h
      exact ⟨k, h1, by rw [Nat.testBit_two_pow_sub_one]; simp [h1], h2⟩
theorem expS_0 (L : List Nat) : expS L 0 = 0 := by
  refine bit_ext fun d => ?_
  rw [Bool.eq_iff_iff, expS_bit]
  simp
/-- one that is not there -/
theorem not_full {t n : Nat} (ht : t < 2 ^ n) (h : t ≠ 2 ^ n - 1) : ∃ k, k < n ∧ t.testBit k = false := by
  apply Classical.byContradiction
  intro z
  refine h (bit_ext fun k => ?_)
  rw [Nat.testBit_two_pow_sub_one]
  by_cases hk : k < n
  · cases hb : t.testBit k with
    | true => simp [hk]
    | false => exact absurd ⟨k, hk, hb⟩ z
  · rw [Nat.testBit_lt_two_pow (Nat.lt_of_lt_of_le ht (Nat.pow_le_pow_right (by decide) (by omega)))]
    simp [hk]
/-! ===== what comes behind a set ===== -/
def hangS (r : Row) (B : Nat → Nat) (s d : Nat) : Nat := if s.testBit d then B d else hgN r d
def clashS (r : Row) (B : Nat → Nat) (s : Nat) : Nat := pairsN r (hangS r B s)
/-- the least of what comes behind, 0 if nothing does -/
def isMin (full : Prop) (P : Nat → Prop) (f : Nat → Nat) (u : Nat) : Prop := (full ∧ u = 0) ∨ (¬ full ∧ (∃ d, P d ∧ u = f d) ∧ ∀ d, P d → u ≤ f d)
theorem isMin.eq {full : Prop} {P : Nat → Prop} {f : Nat → Nat} {u v : Nat} (h : isMin full P f u) (k : isMin full P f v) : u = v := by
  rcases h with ⟨h1, rfl⟩ | ⟨h1, ⟨d, h2, h3⟩, h4⟩ <;> rcases k with ⟨k1, rfl⟩ | ⟨k1, ⟨e, k2, k3⟩, k4⟩
  · rfl
  · exact absurd h1 k1
  · exact absurd k1 h1
  · have a := h4 e k2
    have b := k4 d h2
    omega
def okC (r : Row) (B : Nat → Nat) (L : List Nat) (b : Nat → Nat) (t : Nat) : Prop := ∃ u, isMin (t = 2 ^ L.length - 1) (fun k => k < L.length ∧ t.testBit k = false) (fun k => b (t ||| 2 ^ k)) u ∧ b t = max (clashS r B (expS L t)) u
def okR (r : Row) (B : Nat → Nat) (A : Nat) (f : Nat → Nat) (s : Nat) : Prop := ∃ u, isMin (s = A) (fun d => A.testBit d = true ∧ s.testBit d = false) (fun d => f (s ||| 2 ^ d)) u ∧ f s = max (clashS r B s) u
theorem or_ge (s d : Nat) : s ≤ s ||| 2 ^ d := Nat.left_le_or
theorem or_gt {s d : Nat} (h : s.testBit d = false) : s < s ||| 2 ^ d := by
  have h1 := or_ge s d
  rcases Nat.lt_or_eq_of_le h1 with z | z
  · exact z
  · have : (s ||| 2 ^ d).testBit d = true := by rw [testBit_or]; simp
    rw [← z, h] at this; cases this
/-- both tables tell the same -/
theorem tables {r : Row} {B : Nat → Nat} {L : List Nat} (hL : L.Pairwise (· < ·)) {b f : Nat → Nat} (hb : ∀ t, t < 2 ^ L.length → okC r B L b t) (hf : ∀ s, wthin s (mkS L) → okR r B (mkS L) f s) : ∀ k t, t + k = 2 ^ L.length - 1 → b t = f (expS L t) := by
  intro k
  induction k using Nat.strongRecOn with
  | ind k ih =>
    intro t ht
    have h2 : 1 ≤ 2 ^ L.length := Nat.one_le_two_pow
    have htl : t < 2 ^ L.length := by omega
    obtain ⟨u, u1, u2⟩ := hb t htl
    obtain ⟨v, v1, v2⟩ := hf (expS L t) (expS_within L t)
    have next : ∀ j, j < L.length → t.testBit j = false → b (t ||| 2 ^ j) = f (expS L t ||| 2 ^ (L.getD j 0)) := fun j hj hbj => by
      rw [← expS_or hj]
      have h3 := or_gt hbj
      have h4 : t ||| 2 ^ j < 2 ^ L.length := Nat.or_lt_two_pow htl (Nat.pow_lt_pow_right (by decide) hj)
      exact ih (2 ^ L.length - 1 - (t ||| 2 ^ j)) (by omega) _ (by omega)
    have : isMin (expS L t = mkS L) (fun d => (mkS L).testBit d = true ∧ (expS L t).testBit d = false) (fun d => f (expS L t ||| 2 ^ d)) u := by
      rcases u1 with ⟨u3, u4⟩ | ⟨u3, ⟨j, ⟨u4, u5⟩, u6⟩, u7⟩
      · exact Or.inl ⟨(expS_full hL htl).mpr u3, u4⟩
      · refine Or.inr ⟨fun z => u3 ((expS_full hL htl).mp z), ⟨L.getD j 0, ⟨by rw [mkS_bit]; exact decide_eq_true (getD_mem u4), by rw [expS_has hL u4]; exact u5⟩, by rw [u6]; exact next j u4 u5⟩, fun d ⟨d1, d2⟩ => ?_⟩
        rw [mkS_bit, decide_eq_true_eq] at d1
        obtain ⟨i, i1, rfl⟩ := mem_getD d1
        rw [expS_has hL i1] at d2
        have := u7 i ⟨i1, d2⟩
        dsimp only at this ⊢
        rw [← next i i1 d2]; exact this
    rw [u2, v2, isMin.eq this v1]
