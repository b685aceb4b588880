set_option maxRecDepth 100000
def uL64 (x : Int64) : Nat := x.toBitVec.toNat
theorem u_lt (x : Int64) : uL64 x < 2 ^ 64 := x.toBitVec.isLt
theorem u_and (a b : Int64) : uL64 (a &&& b) = uL64 a &&& uL64 b := by unfold uL64; rw [Int64.toBitVec_and, BitVec.toNat_and]
theorem u_add (a b : Int64) : uL64 (a + b) = (uL64 a + uL64 b) % 2 ^ 64 := by unfold uL64; rw [Int64.toBitVec_add, BitVec.toNat_add]
theorem u_sub {a b : Int64} (h : uL64 b ≤ uL64 a) : uL64 (a - b) = uL64 a - uL64 b := by
  have h1 := u_lt a
  have h2 := u_lt b
  unfold uL64 at *
  rw [Int64.toBitVec_sub, BitVec.toNat_sub]
  omega
theorem u_inj {a b : Int64} (h : uL64 a = uL64 b) : a = b := Int64.toBitVec_inj.mp (BitVec.eq_of_toNat_eq h)
theorem u_shr (a : Int64) (s : Nat) (hs : s < 64) {k : UInt64} (hk : k.toNat % 64 = s) : uL64 ((a.toUInt64 >>> k).toInt64) = uL64 a / 2 ^ s := by
  show (a.toUInt64 >>> k).toNat = _
  rw [UInt64.toNat_shiftRight, hk, Nat.shiftRight_eq_div_pow]
  rfl
theorem rep_eq : rep 85 8 = 6148914691236517205 ∧ rep 51 8 = 3689348814741910323 ∧ rep 15 8 = 1085102592571150095 := ⟨rfl, rfl, rfl⟩
theorem bitCount64 (x : Int64) (h : gH) : (M_J7_bitCount x).1 h = some (nI (pop (uL64 x)), h) := by
  obtain ⟨n1, n2, n3, e1, l1, e2, l2, l3, e3, l4, e4⟩ := swar64 (uL64 x) (u_lt x)
  rw [rep_eq.1] at e1 l1
  rw [rep_eq.2.1] at e2
  rw [rep_eq.2.2] at e3
  have c1 : uL64 (6148914691236517205 : Int64) = 6148914691236517205 := by decide
  have c2 : uL64 (3689348814741910323 : Int64) = 3689348814741910323 := by decide
  have c3 : uL64 (1085102592571150095 : Int64) = 1085102592571150095 := by decide
  unfold M_J7_bitCount
  simp only [Mo.lv]
  generalize hv1 : x - ((x.toUInt64 >>> ((1 : Int32).toInt64.toUInt64 &&& Int64.toUInt64 63)).toInt64 &&& 6148914691236517205) = v1
  have f1 : uL64 v1 = n1 := by
    rw [← hv1, u_sub (by rw [u_and, u_shr x 1 (by decide) (by decide), c1]; exact l1), u_and, u_shr x 1 (by decide) (by decide), c1]
    exact e1.symm
  generalize hv2 : (v1 &&& 3689348814741910323) + ((v1.toUInt64 >>> ((2 : Int32).toInt64.toUInt64 &&& Int64.toUInt64 63)).toInt64 &&& 3689348814741910323) = v2
  have f2 : uL64 v2 = n2 := by
    rw [← hv2, u_add, u_and, u_and, u_shr v1 2 (by decide) (by decide), c2, f1, show (2 : Nat) ^ 2 = 4 from rfl, ← e2]
    exact Nat.mod_eq_of_lt l3
  generalize hv3 : (v2 + (v2.toUInt64 >>> ((4 : Int32).toInt64.toUInt64 &&& Int64.toUInt64 63)).toInt64) &&& 1085102592571150095 = v3
  have f3 : uL64 v3 = n3 := by
    rw [← hv3, u_and, u_add, u_shr v2 4 (by decide) (by decide), c3, f2, show (2 : Nat) ^ 4 = 16 from rfl, e3]
    have g := Nat.and_mod_two_pow (a := n2 + n2 / 16) (b := 1085102592571150095) (n := 64)
    rw [Nat.mod_eq_of_lt (show 1085102592571150095 < 2 ^ 64 by decide), Nat.mod_eq_of_lt (Nat.lt_of_le_of_lt Nat.and_le_right (by decide))] at g
    exact g.symm
  have s4 : n3 + n3 / 256 < 2 ^ 60 := by omega
  generalize hv4 : v3 + (v3.toUInt64 >>> ((8 : Int32).toInt64.toUInt64 &&& Int64.toUInt64 63)).toInt64 = v4
  have f4 : uL64 v4 = n3 + n3 / 256 := by
    rw [← hv4, u_add, u_shr v3 8 (by decide) (by decide), f3, show (2 : Nat) ^ 8 = 256 from rfl]
    exact Nat.mod_eq_of_lt (by omega)
  generalize n3 + n3 / 256 = n4 at s4 f4 e4
  have s5 : n4 + n4 / 65536 < 2 ^ 61 := by omega
  generalize hv5 : v4 + (v4.toUInt64 >>> ((16 : Int32).toInt64.toUInt64 &&& Int64.toUInt64 63)).toInt64 = v5
  have f5 : uL64 v5 = n4 + n4 / 65536 := by
    rw [← hv5, u_add, u_shr v4 16 (by decide) (by decide), f4, show (2 : Nat) ^ 16 = 65536 from rfl]
    exact Nat.mod_eq_of_lt (by omega)
  generalize n4 + n4 / 65536 = n5 at s5 f5 e4
  have s6 : n5 + n5 / 4294967296 < 2 ^ 62 := by omega
  generalize hv6 : v5 + (v5.toUInt64 >>> ((32 : Int32).toInt64.toUInt64 &&& Int64.toUInt64 63)).toInt64 = v6
  have f6 : uL64 v6 = n5 + n5 / 4294967296 := by
    rw [← hv6, u_add, u_shr v5 32 (by decide) (by decide), f5, show (2 : Nat) ^ 32 = 4294967296 from rfl]
    exact Nat.mod_eq_of_lt (by omega)
  rw [← f6] at e4
  have e : v6.toInt32 &&& 127 = nI (pop (uL64 x)) := by
    apply Int32.toBitVec_inj.mp
    apply BitVec.eq_of_toNat_eq
    rw [Int32.toBitVec_and, BitVec.toNat_and, Int64.toBitVec_toInt32, BitVec.signExtend_eq_setWidth_of_le _ (by decide), BitVec.toNat_setWidth, show (Int32.toBitVec 127).toNat = 2 ^ 7 - 1 from rfl, Nat.and_two_pow_sub_one_eq_mod]
    show uL64 v6 % 2 ^ 32 % 2 ^ 7 = (Int32.ofNat (pop (uL64 x))).toBitVec.toNat
    rw [show (Int32.ofNat (pop (uL64 x))).toBitVec.toNat = pop (uL64 x) % 2 ^ 32 from rfl, ← e4]
    omega
  rw [e]
  rfl
