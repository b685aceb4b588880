set_option maxRecDepth 100000
/-! ===== sets of cells: the sorted row, and what is met as one counts up ===== -/
theorem insS_mem (c x : Nat) : ∀ l : List Nat, x ∈ insS c l ↔ x = c ∨ x ∈ l
  | [] => by simp [insS]
  | y :: t => by
    unfold insS
    by_cases h1 : c < y
    · simp [h1]
    · rw [if_neg h1]
      by_cases h2 : c = y
      · rw [if_pos h2]; subst h2; simp
      · rw [if_neg h2, List.mem_cons, insS_mem c x t, List.mem_cons]
        constructor
        · rintro (h | h | h) <;> simp [h]
        · rintro (h | h | h) <;> simp [h]
theorem insS_sorted (c : Nat) : ∀ l : List Nat, l.Pairwise (· < ·) → (insS c l).Pairwise (· < ·)
  | [], _ => by simp [insS]
  | y :: t, h => by
    obtain ⟨h1, h2⟩ := List.pairwise_cons.mp h
    unfold insS
    by_cases g1 : c < y
    · rw [if_pos g1]
      refine List.pairwise_cons.mpr ⟨fun z hz => ?_, h⟩
      rcases List.mem_cons.mp hz with e | e
      · rw [e]; exact g1
      · exact Nat.lt_trans g1 (h1 z e)
    · rw [if_neg g1]
      by_cases g2 : c = y
      · rw [if_pos g2]; exact h
      · rw [if_neg g2]
        refine List.pairwise_cons.mpr ⟨fun z hz => ?_, insS_sorted c t h2⟩
        rcases (insS_mem c z t).mp hz with e | e
        · omega
        · exact h1 z e
theorem srt_fold : ∀ (L l : List Nat), l.Pairwise (· < ·) → (L.foldl (fun l c => insS c l) l).Pairwise (· < ·) ∧ ∀ x, x ∈ L.foldl (fun l c => insS c l) l ↔ x ∈ l ∨ x ∈ L
  | [], l, h => ⟨h, fun x => by simp⟩
  | c :: L, l, h => by
    obtain ⟨a, b⟩ := srt_fold L (insS c l) (insS_sorted c l h)
    refine ⟨a, fun x => ?_⟩
    rw [List.foldl_cons, b x, insS_mem, List.mem_cons]
    constructor
    · rintro ((h | h) | h) <;> simp [h]
    · rintro (h | h | h) <;> simp [h]
theorem srt_sorted (L : List Nat) : (srt L).Pairwise (· < ·) := (srt_fold L [] List.Pairwise.nil).1
theorem srt_mem (L : List Nat) (x : Nat) : x ∈ srt L ↔ x ∈ L := by
  have := (srt_fold L [] List.Pairwise.nil).2 x
  simpa [srt] using this
/-- two rising rows of the same numbers are one -/
theorem sorted_eq : ∀ (l m : List Nat), l.Pairwise (· < ·) → m.Pairwise (· < ·) → (∀ x, x ∈ l ↔ x ∈ m) → l = m
  | [], [], _, _, _ => rfl
  | [], y :: m, _, _, h => absurd ((h y).mpr (by simp)) (by simp)
  | x :: l, [], _, _, h => absurd ((h x).mp (by simp)) (by simp)
  | x :: l, y :: m, hl, hm, h => by
    obtain ⟨l1, l2⟩ := List.pairwise_cons.mp hl
    obtain ⟨m1, m2⟩ := List.pairwise_cons.mp hm
    have e : x = y := by
      have a := (h x).mp (by simp)
      have b := (h y).mpr (by simp)
      rcases List.mem_cons.mp a with a | a
      · exact a
      · rcases List.mem_cons.mp b with b | b
        · exact b.symm
        · have := l1 y b
          have := m1 x a
          omega
    subst e
    rw [sorted_eq l m l2 m2 (fun z => ?_)]
    constructor
    · intro hz
      have := (h z).mp (by simp [hz])
      rcases List.mem_cons.mp this with e | e
      · have := l1 z hz; omega
      · exact e
    · intro hz
      have := (h z).mpr (by simp [hz])
      rcases List.mem_cons.mp this with e | e
      · have := m1 z hz; omega
      · exact e
/-- the k-th of a row, counted from n on -/
def nth (p : Int32) : List Nat → Nat → Option Nat
  | [], _ => none
  | c :: t, n => if nI n = p then some c else nth p t (n + 1)
theorem nth_cons (p : Int32) (c : Nat) (t : List Nat) (n : Nat) : nth p (c :: t) n = if nI n = p then some c else nth p t (n + 1) := rfl
theorem nth_app (p : Int32) : ∀ (l m : List Nat) (n : Nat), nth p (l ++ m) n = match nth p l n with | some c => some c | none => nth p m (n + l.length)
  | [], m, n => rfl
  | c :: t, m, n => by
    rw [List.cons_append, nth_cons, nth_cons]
    by_cases h : nI n = p
    · simp [h]
    · rw [if_neg h, if_neg h, nth_app p t m (n + 1), List.length_cons]
      rw [show n + 1 + t.length = n + (t.length + 1) by omega]
theorem nth_neg (p : Int32) (hp : p < 0) : ∀ (l : List Nat) (n : Nat), n + l.length < 2 ^ 31 → nth p l n = none
  | [], _, _ => rfl
  | c :: t, n, h => by
    simp only [List.length_cons] at h
    unfold nth
    rw [if_neg (fun e => by rw [← e] at hp; exact absurd hp (nI_pos (by omega))), nth_neg p hp t (n + 1) (by omega)]
theorem nth_get (k : Nat) (hk : k < 2 ^ 31) : ∀ (l : List Nat) (n : Nat), n + l.length < 2 ^ 31 → n ≤ k → nth (nI k) l n = l[k - n]?
  | [], _, _, _ => rfl
  | c :: t, n, h, hn => by
    simp only [List.length_cons] at h
    unfold nth
    by_cases e : n = k
    · subst e; rw [if_pos rfl, Nat.sub_self]; rfl
    · rw [if_neg (fun z => e ((nI_inj (by omega) hk).mp z)), nth_get k hk t (n + 1) (by omega) (by omega), show k - n = (k - (n + 1)) + 1 by omega]
      rfl
/-- reading a set of cells -/
theorem getC_run {F : Fz} {h : gH} {a : Nat} {L : List Nat} {b : Bool} (Z : Frz F h) (C : IsCells F a L b) (h9 : (srt L).length ≤ 9) (p : Int32) : (M_X12_get a p).1 h = some (match nth p (srt L) 0 with | some c => nI c | none => -1, h) := by
  obtain ⟨q, f, c1, c2, c3⟩ := C
  unfold M_X12_get
  rw [ev_chk (Z _ _ c1) (by decide), ev_I (Z _ _ c1) (by decide) rfl, ev_call (isIn_run _ _ _ _)]
  rcases rng p (n := nI (srt L).length) (k := (srt L).length) rfl (by omega) with ⟨b1, b2, b3, b4, b5⟩ | ⟨b1, b2⟩
  · rw [b1]
    simp only [cond_true, Mo.bind_assoc, Mo.pure_bind]
    rw [ev_R (Z _ _ c1) (by decide) rfl, ev_ald (Z _ _ c2) (gIn_of b2 b3 h9 (by decide)), c3 _ b3]
    have : nth p (srt L) 0 = (srt L)[p.toNatClampNeg]? := by
      conv => lhs; rw [b2]
      rw [nth_get _ (by omega) _ _ (by omega) (by omega)]
      rfl
    rw [this, List.getD_eq_getElem?_getD, List.getElem?_eq_getElem b3]
    rfl
  · rw [b1]
    have : nth p (srt L) 0 = none := by
      by_cases hp : p < 0
      · exact nth_neg p hp _ _ (by omega)
      · obtain ⟨e1, e2⟩ := nI_self hp
        have hge : (srt L).length ≤ p.toNatClampNeg := by
          rcases b2 with b2 | b2
          · exact absurd b2 hp
          · rw [e1] at b2
            exact (nI_le_iff (by omega) e2).mp b2
        conv => lhs; rw [e1]
        rw [nth_get _ e2 _ _ (by omega) (by omega)]
        exact List.getElem?_eq_none (by omega)
    rw [this]
    rfl
