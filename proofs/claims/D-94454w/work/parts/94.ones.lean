set_option maxRecDepth 100000
theorem lg_cmp0 (x : Int64) : (lg_cmp x 0 = 0) ↔ x = 0 := by
  constructor
  · intro h
    unfold lg_cmp at h
    split at h
    · exact absurd h (by decide)
    · split at h
      · rename_i h1 h2
        first | exact h2 | exact eq_of_beq h2 | (simp at h2; exact h2)
      · exact absurd h (by decide)
  · intro h; subst h; exact lg_cmp_self 0
theorem u_zero {x : Int64} : uL64 x = 0 ↔ x = 0 := ⟨fun h => u_inj (by rw [h]; rfl), fun h => by subst h; rfl⟩
theorem pop_le : ∀ k x, x < 2 ^ k → pop x ≤ k
  | 0, x, h => by
    have : x = 0 := by simpa using h
    subst this; simp [pop_zero]
  | k + 1, x, h => by
    rw [Nat.pow_succ] at h
    have := pop_le k (x / 2) (by omega)
    rw [pop_step]; omega
theorem ones_run (x : Int64) (m : MS) : M_X10_ones x m = some (nI (pop (uL64 x)), m) := by
  unfold M_X10_ones
  refine (t_of (a := nI (pop (uL64 x))) (m1 := m) ?_).trans rfl
  suffices H : ∀ k n (x : Int64), pop (uL64 x) = k → TM.loop (S := Int32 × Int64) (E := Int32) (fun s1 => if (lg_cmp s1.2 0) = 0 then TM.pure (Sum.inr s1.1) else TM.lv (s1.1 + 1) (fun v5 => TM.lv (s1.2 &&& (s1.2 - 1)) (fun v6 => TM.pure (Sum.inl (v5, v6))))) (nI n, x) m = some (nI (n + k), m) by
    have := H _ 0 x rfl
    rw [Nat.zero_add] at this
    exact this
  intro k
  induction k with
  | zero =>
    intro n x hx
    have h0 : uL64 x = 0 := Classical.byContradiction fun z => pop_pos z hx
    refine TM.loop_inr ?_
    dsimp only
    rw [if_pos ((lg_cmp0 x).mpr (u_zero.mp h0))]
    rfl
  | succ k ih =>
    intro n x hx
    have h0 : uL64 x ≠ 0 := fun z => by rw [z, pop_zero] at hx; omega
    have hx0 : ¬ x = 0 := fun z => h0 (u_zero.mpr z)
    have e : uL64 (x &&& (x - 1)) = uL64 x &&& (uL64 x - 1) := by
      rw [u_and, u_sub (by show 1 ≤ uL64 x; omega)]
      rfl
    have hk := pop_kern h0
    rw [TM.loop_inl (s' := (nI (n + 1), x &&& (x - 1))) (m1 := m) (by
      dsimp only
      rw [if_neg (fun z => hx0 ((lg_cmp0 x).mp z)), te_lv, te_lv, nI_succ]; rfl)]
    rw [ih (n + 1) _ (by rw [e]; omega), show n + 1 + k = n + (k + 1) by omega]
/-! ints: 0 to 1023 -/
theorem u32_lt : ∀ k : Nat, k < 1024 → nI k &&& (nI k - 1) = nI (k &&& (k - 1)) := by decide +kernel
theorem bits_run (k : Nat) (hk : k < 1024) (m : MS) : M_X10_bits (nI k) m = some (nI (pop k), m) := by
  unfold M_X10_bits
  refine (t_of (a := nI (pop k)) (m1 := m) ?_).trans rfl
  suffices H : ∀ j n k, k < 1024 → pop k = j → TM.loop (S := Int32 × Int32) (E := Int32) (fun s1 => if s1.2 = 0 then TM.pure (Sum.inr s1.1) else TM.lv (s1.1 + 1) (fun v5 => TM.lv (s1.2 &&& (s1.2 - 1)) (fun v6 => TM.pure (Sum.inl (v5, v6))))) (nI n, nI k) m = some (nI (n + j), m) by
    have := H _ 0 k hk rfl
    rw [Nat.zero_add] at this
    exact this
  intro j
  induction j with
  | zero =>
    intro n k hk hx
    have h0 : k = 0 := Classical.byContradiction fun z => pop_pos z hx
    subst h0
    exact TM.loop_inr rfl
  | succ j ih =>
    intro n k hk hx
    have h0 : k ≠ 0 := fun z => by rw [z, pop_zero] at hx; omega
    have hx0 : ¬ nI k = 0 := fun z => h0 ((nI_inj (b := 0) (by omega) (by decide)).mp z)
    have hj := pop_kern h0
    rw [TM.loop_inl (s' := (nI (n + 1), nI (k &&& (k - 1)))) (m1 := m) (by
      dsimp only
      rw [if_neg hx0, te_lv, te_lv, nI_succ, u32_lt k hk]; rfl)]
    rw [ih (n + 1) _ (Nat.lt_of_le_of_lt Nat.and_le_left hk) (by omega), show n + 1 + j = n + (j + 1) by omega]
def popN (k : Nat) : Nat := popB (k % 256) + k / 256 % 2 + k / 512 % 2
theorem popN_eq {k : Nat} (hk : k < 1024) : pop k = popN k := by
  unfold popN
  rw [pop_byte k, popB_eq (b := k % 256) (by omega), pop_step (k / 256), pop_step (k / 256 / 2), show k / 256 / 2 / 2 = 0 by omega, pop_zero]
  omega
def swar32 (p1 : Int32) : Int32 :=
  let v1 := p1 - (((p1.toUInt32 >>> ((1 : Int32).toUInt32 &&& Int32.toUInt32 31)).toInt32) &&& 1431655765)
  let v2 := (v1 &&& 858993459) + (((v1.toUInt32 >>> ((2 : Int32).toUInt32 &&& Int32.toUInt32 31)).toInt32) &&& 858993459)
  let v3 := (v2 + ((v2.toUInt32 >>> ((4 : Int32).toUInt32 &&& Int32.toUInt32 31)).toInt32)) &&& 252645135
  let v4 := v3 + ((v3.toUInt32 >>> ((8 : Int32).toUInt32 &&& Int32.toUInt32 31)).toInt32)
  let v5 := v4 + ((v4.toUInt32 >>> ((16 : Int32).toUInt32 &&& Int32.toUInt32 31)).toInt32)
  v5 &&& 63
theorem swar32_eq : ∀ k : Nat, k < 1024 → swar32 (nI k) = nI (popN k) := by decide +kernel
theorem bitCount32 (k : Nat) (hk : k < 1024) (h : gH) : (M_J10_bitCount (nI k)).1 h = some (nI (pop k), h) := by
  rw [popN_eq hk, ← swar32_eq k hk]
  rfl
