set_option maxRecDepth 100000
theorem op_2 {n : Nat} {h : gH} (R : Rel n h) (a : Nat → Int32) : OpOk n h (LS_2 n (n + 50) (n + 83) a) := by
  sorry
theorem op_27 {n : Nat} {h : gH} (R : Rel n h) (a : Nat → Int32) : OpOk n h (LS_27 n (n + 50) (n + 83) a) := by
  sorry
theorem op_37 {n : Nat} {h : gH} (R : Rel n h) (a : Nat → Int32) : OpOk n h (LS_37 n (n + 50) (n + 83) a) := by
  sorry
theorem op_38 {n : Nat} {h : gH} (R : Rel n h) (a : Nat → Int32) : OpOk n h (LS_38 n (n + 50) (n + 83) a) := by
  sorry
theorem op_39 {n : Nat} {h : gH} (R : Rel n h) (a : Nat → Int32) : OpOk n h (LS_39 n (n + 50) (n + 83) a) := by
  sorry
theorem op_40 {n : Nat} {h : gH} (R : Rel n h) (a : Nat → Int32) : OpOk n h (LS_40 n (n + 50) (n + 83) a) := by
  sorry
