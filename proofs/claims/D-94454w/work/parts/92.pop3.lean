set_option maxRecDepth 100000
def bsum : Nat → Nat → Nat
  | 0, _ => 0
  | k + 1, x => bsum k (x / 256) + popB (x % 256)
theorem pop_bsum : ∀ k x, x < 256 ^ k → pop x = bsum k x
  | 0, x, h => by
    have : x = 0 := by simpa using h
    subst this
    exact pop_zero
  | k + 1, x, h => by
    rw [Nat.pow_succ] at h
    rw [pop_byte, pop_bsum k (x / 256) (by omega), popB_eq (b := x % 256) (by omega)]
    rfl
theorem divE {a b q l : Nat} (h : a = b * q + l) (hl : l < b) : a / b = q := by
  rw [h, Nat.mul_add_div (by omega), Nat.div_eq_of_lt hl, Nat.add_zero]
theorem pop8 (x : Nat) (hx : x < 256 ^ 8) : ∃ b0 b1 b2 b3 b4 b5 b6 b7, (b0 ≤ 8 ∧ b1 ≤ 8 ∧ b2 ≤ 8 ∧ b3 ≤ 8 ∧ b4 ≤ 8 ∧ b5 ≤ 8 ∧ b6 ≤ 8 ∧ b7 ≤ 8) ∧ pop x = b0 + b1 + b2 + b3 + b4 + b5 + b6 + b7 ∧ bmap popB 8 x = b0 + 256 * b1 + 65536 * b2 + 16777216 * b3 + 4294967296 * b4 + 1099511627776 * b5 + 281474976710656 * b6 + 72057594037927936 * b7 := by
  have hB : ∀ y, popB (y % 256) ≤ 8 := fun y => (w_all (y % 256) (Nat.mod_lt _ (by decide))).2.2.2.2.2.2
  rw [pop_bsum 8 x hx]
  clear hx
  refine ⟨popB (x % 256), popB (x / 256 % 256), popB (x / 256 / 256 % 256), popB (x / 256 / 256 / 256 % 256), popB (x / 256 / 256 / 256 / 256 % 256), popB (x / 256 / 256 / 256 / 256 / 256 % 256), popB (x / 256 / 256 / 256 / 256 / 256 / 256 % 256), popB (x / 256 / 256 / 256 / 256 / 256 / 256 / 256 % 256), ⟨hB _, hB _, hB _, hB _, hB _, hB _, hB _, hB _⟩, ?_, ?_⟩
  · show 0 + popB (x / 256 / 256 / 256 / 256 / 256 / 256 / 256 % 256) + popB (x / 256 / 256 / 256 / 256 / 256 / 256 % 256) + popB (x / 256 / 256 / 256 / 256 / 256 % 256) + popB (x / 256 / 256 / 256 / 256 % 256) + popB (x / 256 / 256 / 256 % 256) + popB (x / 256 / 256 % 256) + popB (x / 256 % 256) + popB (x % 256) = _
    generalize popB (x / 256 / 256 / 256 / 256 / 256 / 256 / 256 % 256) = b7
    generalize popB (x / 256 / 256 / 256 / 256 / 256 / 256 % 256) = b6
    generalize popB (x / 256 / 256 / 256 / 256 / 256 % 256) = b5
    generalize popB (x / 256 / 256 / 256 / 256 % 256) = b4
    generalize popB (x / 256 / 256 / 256 % 256) = b3
    generalize popB (x / 256 / 256 % 256) = b2
    generalize popB (x / 256 % 256) = b1
    generalize popB (x % 256) = b0
    omega
  · show 256 * (256 * (256 * (256 * (256 * (256 * (256 * (256 * 0 + popB (x / 256 / 256 / 256 / 256 / 256 / 256 / 256 % 256)) + popB (x / 256 / 256 / 256 / 256 / 256 / 256 % 256)) + popB (x / 256 / 256 / 256 / 256 / 256 % 256)) + popB (x / 256 / 256 / 256 / 256 % 256)) + popB (x / 256 / 256 / 256 % 256)) + popB (x / 256 / 256 % 256)) + popB (x / 256 % 256)) + popB (x % 256) = _
    generalize popB (x / 256 / 256 / 256 / 256 / 256 / 256 / 256 % 256) = b7
    generalize popB (x / 256 / 256 / 256 / 256 / 256 / 256 % 256) = b6
    generalize popB (x / 256 / 256 / 256 / 256 / 256 % 256) = b5
    generalize popB (x / 256 / 256 / 256 / 256 % 256) = b4
    generalize popB (x / 256 / 256 / 256 % 256) = b3
    generalize popB (x / 256 / 256 % 256) = b2
    generalize popB (x / 256 % 256) = b1
    generalize popB (x % 256) = b0
    omega
theorem dv4 (b0 b1 b2 b3 b4 b5 b6 b7 : Nat) (h0 : b0 ≤ 8) : (b0 + 256 * b1 + 65536 * b2 + 16777216 * b3 + 4294967296 * b4 + 1099511627776 * b5 + 281474976710656 * b6 + 72057594037927936 * b7) / 256 = b1 + 256 * b2 + 65536 * b3 + 16777216 * b4 + 4294967296 * b5 + 1099511627776 * b6 + 281474976710656 * b7 :=
  divE (l := b0) (by omega) (by omega)
theorem dv5 (c0 c1 c2 c3 c4 c5 c6 c7 : Nat) (h0 : c0 ≤ 16) (h1 : c1 ≤ 16) : (c0 + 256 * c1 + 65536 * c2 + 16777216 * c3 + 4294967296 * c4 + 1099511627776 * c5 + 281474976710656 * c6 + 72057594037927936 * c7) / 65536 = c2 + 256 * c3 + 65536 * c4 + 16777216 * c5 + 4294967296 * c6 + 1099511627776 * c7 :=
  divE (l := c0 + 256 * c1) (by omega) (by omega)
theorem dv6 (c0 c1 c2 c3 c4 c5 c6 c7 : Nat) (h0 : c0 ≤ 32) (h1 : c1 ≤ 32) (h2 : c2 ≤ 32) (h3 : c3 ≤ 32) : (c0 + 256 * c1 + 65536 * c2 + 16777216 * c3 + 4294967296 * c4 + 1099511627776 * c5 + 281474976710656 * c6 + 72057594037927936 * c7) / 4294967296 = c4 + 256 * c5 + 65536 * c6 + 16777216 * c7 :=
  divE (l := c0 + 256 * c1 + 65536 * c2 + 16777216 * c3) (by omega) (by omega)
theorem dv7 (c0 c1 c2 c3 c4 c5 c6 c7 : Nat) (h0 : c0 ≤ 64) : (c0 + 256 * c1 + 65536 * c2 + 16777216 * c3 + 4294967296 * c4 + 1099511627776 * c5 + 281474976710656 * c6 + 72057594037927936 * c7) % 128 = c0 := by
  rw [show c0 + 256 * c1 + 65536 * c2 + 16777216 * c3 + 4294967296 * c4 + 1099511627776 * c5 + 281474976710656 * c6 + 72057594037927936 * c7 = 128 * (2 * c1 + 512 * c2 + 131072 * c3 + 33554432 * c4 + 8589934592 * c5 + 2199023255552 * c6 + 562949953421312 * c7) + c0 by omega, Nat.mul_add_mod, Nat.mod_eq_of_lt (by omega)]
theorem ad4 (b0 b1 b2 b3 b4 b5 b6 b7 : Nat) : (b0 + 256 * b1 + 65536 * b2 + 16777216 * b3 + 4294967296 * b4 + 1099511627776 * b5 + 281474976710656 * b6 + 72057594037927936 * b7) + (b1 + 256 * b2 + 65536 * b3 + 16777216 * b4 + 4294967296 * b5 + 1099511627776 * b6 + 281474976710656 * b7) = (b0 + b1) + 256 * (b1 + b2) + 65536 * (b2 + b3) + 16777216 * (b3 + b4) + 4294967296 * (b4 + b5) + 1099511627776 * (b5 + b6) + 281474976710656 * (b6 + b7) + 72057594037927936 * b7 := by omega
theorem ad5 (b0 b1 b2 b3 b4 b5 b6 b7 : Nat) : (b0 + 256 * b1 + 65536 * b2 + 16777216 * b3 + 4294967296 * b4 + 1099511627776 * b5 + 281474976710656 * b6 + 72057594037927936 * b7) + (b2 + 256 * b3 + 65536 * b4 + 16777216 * b5 + 4294967296 * b6 + 1099511627776 * b7) = (b0 + b2) + 256 * (b1 + b3) + 65536 * (b2 + b4) + 16777216 * (b3 + b5) + 4294967296 * (b4 + b6) + 1099511627776 * (b5 + b7) + 281474976710656 * b6 + 72057594037927936 * b7 := by omega
theorem ad6 (b0 b1 b2 b3 b4 b5 b6 b7 : Nat) : (b0 + 256 * b1 + 65536 * b2 + 16777216 * b3 + 4294967296 * b4 + 1099511627776 * b5 + 281474976710656 * b6 + 72057594037927936 * b7) + (b4 + 256 * b5 + 65536 * b6 + 16777216 * b7) = (b0 + b4) + 256 * (b1 + b5) + 65536 * (b2 + b6) + 16777216 * (b3 + b7) + 4294967296 * b4 + 1099511627776 * b5 + 281474976710656 * b6 + 72057594037927936 * b7 := by omega
/-- the Nat side of Long.bitCount -/
theorem swar64 (x : Nat) (hx : x < 256 ^ 8) : ∃ v1 v2 v3, v1 = x - (x / 2 &&& rep 85 8) ∧ (x / 2 &&& rep 85 8) ≤ x ∧ v2 = (v1 &&& rep 51 8) + (v1 / 4 &&& rep 51 8) ∧ v1 < 256 ^ 8 ∧ v2 < 256 ^ 8 ∧ v3 = ((v2 + v2 / 16) &&& rep 15 8) ∧ v3 ≤ 8 * 72340172838076673 ∧ (v3 + v3 / 256 + (v3 + v3 / 256) / 65536 + (v3 + v3 / 256 + (v3 + v3 / 256) / 65536) / 4294967296) % 128 = pop x := by
  obtain ⟨v1, v2, e1, e2, e3, e4, e5, e6⟩ := swar3 8 x hx
  obtain ⟨b0, b1, b2, b3, b4, b5, b6, b7, hb, p1, p2⟩ := pop8 x hx
  refine ⟨v1, v2, _, e1, e2, e3, e4, e5, rfl, ?_, ?_⟩
  · rw [e6, p2]
    clear e1 e2 e3 e4 e5 e6 p1 p2 hx
    omega
  · rw [e6, p1, p2]
    clear e1 e2 e3 e4 e5 e6 p1 p2 hx
    rw [dv4 b0 b1 b2 b3 b4 b5 b6 b7 (by omega), ad4, dv5 _ _ _ _ _ _ _ _ (by omega) (by omega), ad5, dv6 _ _ _ _ _ _ _ _ (by omega) (by omega) (by omega) (by omega), ad6, dv7 _ _ _ _ _ _ _ _ (by omega)]
    omega
