set_option maxRecDepth 100000
/-! ===== how the reference's functions run ===== -/
section
variable {α β : Type} {m m1 : MS}
theorem t_of {x : TM α} {f : α → TM β} {a : α} (e : x m = some (a, m1)) : TM.bind x f m = f a m1 := by unfold TM.bind; rw [e]
theorem te_I {k : Nat} {f : Int32 → TM β} : TM.bind (tI k) f m = f (m.1 k) m := rfl
theorem te_L {k : Nat} {f : Int64 → TM β} : TM.bind (tL k) f m = f (m.2.1 k) m := rfl
theorem te_Z {k : Nat} {f : Bool → TM β} {v : Bool} (e : m.1 k = b2i v) : TM.bind (tZ k) f m = f v m := by
  refine t_of ?_
  unfold tZ
  rw [e]
  cases v <;> rfl
theorem te_A {k n : Nat} {i : Int32} {f : Int32 → TM β} (hi : gIn i n = true) : TM.bind (tA k n i) f m = f (m.2.2.1 k i.toNatClampNeg) m := t_of (by unfold tA; rw [if_pos hi])
theorem te_B {k n : Nat} {i : Int32} {f : Int64 → TM β} (hi : gIn i n = true) : TM.bind (tB k n i) f m = f (m.2.2.2 k i.toNatClampNeg) m := t_of (by unfold tB; rw [if_pos hi])
theorem te_sI {k : Nat} {x : Int32} {f : Unit → TM β} : TM.bind (sI k x) f m = f () (uI m k x) := rfl
theorem te_sL {k : Nat} {x : Int64} {f : Unit → TM β} : TM.bind (sL k x) f m = f () (uL m k x) := rfl
theorem te_sA {k n : Nat} {i x : Int32} {f : Unit → TM β} (hi : gIn i n = true) : TM.bind (sA k n i x) f m = f () (uA m k i.toNatClampNeg x) := t_of (by unfold sA; rw [if_pos hi])
theorem te_sB {k n : Nat} {i : Int32} {x : Int64} {f : Unit → TM β} (hi : gIn i n = true) : TM.bind (sB k n i x) f m = f () (uB m k i.toNatClampNeg x) := t_of (by unfold sB; rw [if_pos hi])
theorem te_lv {a : α} {f : α → TM β} : TM.lv a f m = f a m := rfl
theorem te_pure {a : α} {f : α → TM β} : TM.bind (TM.pure a) f m = f a m := rfl
theorem te_ite {c : Prop} [Decidable c] {x y : TM β} : (if c then x else y) m = if c then x m else y m := by split <;> rfl
theorem TM.loop_inl {S E : Type} {b : S → TM (S ⊕ E)} {s s' : S} (e : b s m = some (.inl s', m1)) : TM.loop b s m = TM.loop b s' m1 := by rw [TM.loop_eq, e]
theorem TM.loop_inr {S E : Type} {b : S → TM (S ⊕ E)} {s : S} {x : E} (e : b s m = some (.inr x, m1)) : TM.loop b s m = some (x, m1) := by rw [TM.loop_eq, e]
theorem TM.loop_count {S E : Type} {b : S → TM (S ⊕ E)} (c : Nat → S) (N : Nat) (H : Nat → MS) {x : E} {hE : MS} (step : ∀ i, i < N → b (c i) (H i) = some (.inl (c (i + 1)), H (i + 1))) (stop : b (c N) (H N) = some (.inr x, hE)) : ∀ k i, i + k = N → TM.loop b (c i) (H i) = some (x, hE) := by
  intro k
  induction k with
  | zero =>
    intro i hi
    have : i = N := by omega
    subst this
    exact TM.loop_inr stop
  | succ k ih =>
    intro i hi
    rw [TM.loop_inl (step i (by omega))]
    exact ih (i + 1) (by omega)
end
/-! ===== ints ===== -/
theorem gIn_nI {k n : Nat} (hk : k < n) (hn : n < 2 ^ 31) : gIn (nI k) n = true := by
  unfold gIn
  rw [nI_clamp (by omega)]
  simp [nI_pos (show k < 2 ^ 31 by omega)]
  omega
theorem nI_inj {a b : Nat} (ha : a < 2 ^ 31) (hb : b < 2 ^ 31) : nI a = nI b ↔ a = b :=
  ⟨fun h => by have := congrArg Int32.toNatClampNeg h; rw [nI_clamp ha, nI_clamp hb] at this; exact this, fun h => by rw [h]⟩
theorem nI_lt_iff {a b : Nat} (ha : a < 2 ^ 31) (hb : b < 2 ^ 31) : nI a < nI b ↔ a < b := by
  rw [Int32.lt_iff_toInt_lt, nI_toInt ha, nI_toInt hb]; omega
theorem nI_le_iff {a b : Nat} (ha : a < 2 ^ 31) (hb : b < 2 ^ 31) : nI a ≤ nI b ↔ a ≤ b := by
  rw [Int32.le_iff_toInt_le, nI_toInt ha, nI_toInt hb]; omega
theorem nI_ne_neg {a : Nat} (ha : a < 2 ^ 31) : nI a ≠ -1 := by
  intro h
  have := congrArg Int32.toInt h
  rw [nI_toInt ha] at this
  have e : (-1 : Int32).toInt = -1 := by decide
  rw [e] at this
  omega
/-- an int of 0 or more is its own number -/
theorem nI_self {x : Int32} (h : ¬ x < 0) : x = nI x.toNatClampNeg ∧ x.toNatClampNeg < 2 ^ 31 := by
  have h0 : (0 : Int) ≤ x.toInt := by
    have := Int32.not_lt.mp h
    simpa using Int32.le_iff_toInt_le.mp this
  have h1 : x.toInt < 2 ^ 31 := Int32.toInt_lt x
  have hk : x.toNatClampNeg < 2 ^ 31 := by show x.toInt.toNat < 2 ^ 31; omega
  refine ⟨?_, hk⟩
  apply Int32.toInt_inj.mp
  rw [nI_toInt hk]
  show x.toInt = ((x.toInt.toNat : Nat) : Int)
  omega
