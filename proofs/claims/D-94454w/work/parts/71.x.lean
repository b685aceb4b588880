set_option maxRecDepth 100000
/-! ===== the class: its own objects as one value ===== -/
/-- ints of the class by field; refs (11 day, 42 sentence, 200 201 houses of now and tried, 205 the house being read); arrays by field (200 201 now's hanging and angle, 210 211 tried's); ints of objects (0 now, 1 tried, 2 fault, 5 6 7 readers) by field; names of readers; arrays of references by field (43 44 45) -/
abbrev XS : Type := (Nat → Int32) × (Nat → Option Nat) × (Nat → Nat → Int32) × (Nat → Nat → Int32) × (Nat → Int64) × (Nat → Nat → Option Nat)
def x1F (ax : Nat) (xs : XS) : List Value := [.ref (ax + 1), .int (xs.1 1), .int (xs.1 2), .int (xs.1 3), .ref (ax + 2), .ref (ax + 3), .ref (ax + 4), .ref (ax + 5), .ref (ax + 6), .ref (ax + 7), .ref (ax + 15), va_rf (xs.2.1 11), .ref (ax + 25), .ref (ax + 26), .int (xs.1 14), .ref (ax + 27), .ref (ax + 28), .ref (ax + 29), .int (xs.1 18), .int (xs.1 19), .int (xs.1 20), .ref (ax + 30), .ref (ax + 31), .ref (ax + 32), .int (xs.1 24), .int (xs.1 25), .ref (ax + 33), .ref (ax + 34), .ref (ax + 35), .ref (ax + 36), .ref (ax + 37), .int (xs.1 31), .ref (ax + 38), .int (xs.1 33), .ref (ax + 39), .ref (ax + 40), .ref (ax + 41), .ref (ax + 42), .int (xs.1 38), .int (xs.1 39), .ref (ax + 43), .ref (ax + 44), va_rf (xs.2.1 42), .ref (ax + 47), .ref (ax + 48), .ref (ax + 49)]
def xCell (ax : Nat) (xs : XS) (d : gA) : Nat → gA
  | 0 => .inr (0, x1F ax xs)
  | 1 => .inl (2, 940, .inl (xs.2.2.1 0))
  | 2 => .inr (1, [.null, .null, .null, .null, .null, .int 0, .int (xs.2.2.2.1 2 6), .int (xs.2.2.2.1 2 7)])
  | 7 => .inr (2, [va_rf (xs.2.1 200), .ref (ax + 13), .ref (ax + 14), .int (xs.2.2.2.1 0 3), .int (xs.2.2.2.1 0 4), .int (xs.2.2.2.1 0 5)])
  | 13 => .inl (0, 10, .inl (xs.2.2.1 200))
  | 14 => .inl (0, 10, .inl (xs.2.2.1 201))
  | 15 => .inr (2, [va_rf (xs.2.1 201), .ref (ax + 21), .ref (ax + 22), .int (xs.2.2.2.1 1 3), .int (xs.2.2.2.1 1 4), .int (xs.2.2.2.1 1 5)])
  | 21 => .inl (0, 10, .inl (xs.2.2.1 210))
  | 22 => .inl (0, 10, .inl (xs.2.2.1 211))
  | 25 => .inr (5, [.int (xs.2.2.2.1 5 0), .int (xs.2.2.2.1 5 1), .int (xs.2.2.2.1 5 2), .int (xs.2.2.2.1 5 3), .int (xs.2.2.2.1 5 4), .int (xs.2.2.2.1 5 5), .long (xs.2.2.2.2.1 5), .ref ax, va_rf (xs.2.1 205), .ref ax])
  | 26 => .inr (6, [.int (xs.2.2.2.1 6 0), .int (xs.2.2.2.1 6 1), .int (xs.2.2.2.1 6 2), .int (xs.2.2.2.1 6 3), .int (xs.2.2.2.1 6 4), .int (xs.2.2.2.1 6 5), .long (xs.2.2.2.2.1 6), .ref ax, .ref ax])
  | 27 => .inl (0, 10, .inl (xs.2.2.1 15))
  | 28 => .inl (0, 10, .inl (xs.2.2.1 16))
  | 29 => .inl (0, 10, .inl (xs.2.2.1 17))
  | 30 => .inl (0, 10, .inl (xs.2.2.1 21))
  | 31 => .inl (0, 10, .inl (xs.2.2.1 22))
  | 32 => .inl (0, 10, .inl (xs.2.2.1 23))
  | 33 => .inl (0, 10, .inl (xs.2.2.1 26))
  | 34 => .inl (0, 10, .inl (xs.2.2.1 27))
  | 35 => .inl (0, 10, .inl (xs.2.2.1 28))
  | 36 => .inl (0, 1024, .inl (xs.2.2.1 29))
  | 37 => .inl (0, 1024, .inl (xs.2.2.1 30))
  | 38 => .inl (0, 5, .inl (xs.2.2.1 32))
  | 39 => .inl (0, 24300, .inl (xs.2.2.1 34))
  | 40 => .inl (0, 24300, .inl (xs.2.2.1 35))
  | 41 => .inl (0, 24300, .inl (xs.2.2.1 36))
  | 42 => .inl (0, 24300, .inl (xs.2.2.1 37))
  | 43 => .inl (3, 100, .inl (xs.2.2.1 40))
  | 44 => .inr (7, [.int (xs.2.2.2.1 7 0), .int (xs.2.2.2.1 7 1), .int (xs.2.2.2.1 7 2), .int (xs.2.2.2.1 7 3), .int (xs.2.2.2.1 7 4), .int (xs.2.2.2.1 7 5), .long (xs.2.2.2.2.1 7), .ref ax, .ref (ax + 45), .ref (ax + 46), .int (xs.2.2.2.1 7 10), .ref ax])
  | 47 => .inl (7, 2, .inr (.inr (xs.2.2.2.2.2 43)))
  | 48 => .inl (8, 2, .inr (.inr (xs.2.2.2.2.2 44)))
  | 49 => .inl (9, 2, .inr (.inr (xs.2.2.2.2.2 45)))
  | _ => d
def mkX (ax : Nat) (g : gH) (xs : XS) : gH := (fun a => if a < ax then g.1 a else xCell ax xs (g.1 a) (a - ax), g.2)
theorem mkX_at (ax : Nat) (g : gH) (xs : XS) (o : Nat) : (mkX ax g xs).1 (ax + o) = xCell ax xs (g.1 (ax + o)) o := by
  unfold mkX
  simp only [if_neg (Nat.not_lt.mpr (Nat.le_add_right ax o)), Nat.add_sub_cancel_left]
theorem mkX_at0 (ax : Nat) (g : gH) (xs : XS) : (mkX ax g xs).1 ax = .inr (0, x1F ax xs) := mkX_at ax g xs 0
theorem mkX_2 (ax : Nat) (g : gH) (xs : XS) : (mkX ax g xs).2 = g.2 := rfl
theorem mkX_up {ax : Nat} {g : gH} {xs xs' : XS} {o : Nat} {e : gA} (h0 : ∀ d, xCell ax xs' d o = e) (h1 : ∀ d o', o' ≠ o → xCell ax xs' d o' = xCell ax xs d o') : (va_up (mkX ax g xs).1 (ax + o) e, (mkX ax g xs).2) = mkX ax g xs' := by
  refine Prod.ext ?_ rfl
  funext a
  show va_up (mkX ax g xs).1 (ax + o) e a = (mkX ax g xs').1 a
  by_cases z : a = ax + o
  · subst z
    rw [mkX_at, h0]
    simp [va_up]
  · simp only [va_up, if_neg z, mkX]
    by_cases y : a < ax
    · simp only [if_pos y]
    · simp only [if_neg y]
      exact (h1 _ _ (fun e => z (by omega))).symm
def zI (xs : XS) (k : Nat) (v : Int32) : XS := (va_up xs.1 k v, xs.2)
def zR (xs : XS) (k : Nat) (v : Option Nat) : XS := (xs.1, va_up xs.2.1 k v, xs.2.2)
def zA (xs : XS) (k i : Nat) (v : Int32) : XS := (xs.1, xs.2.1, va_up xs.2.2.1 k (va_up (xs.2.2.1 k) i v), xs.2.2.2)
def zAA (xs : XS) (k : Nat) (f : Nat → Int32) : XS := (xs.1, xs.2.1, va_up xs.2.2.1 k f, xs.2.2.2)
def zW (xs : XS) (j k : Nat) (v : Int32) : XS := (xs.1, xs.2.1, xs.2.2.1, va_up xs.2.2.2.1 j (va_up (xs.2.2.2.1 j) k v), xs.2.2.2.2)
def zL (xs : XS) (j : Nat) (v : Int64) : XS := (xs.1, xs.2.1, xs.2.2.1, xs.2.2.2.1, va_up xs.2.2.2.2.1 j v, xs.2.2.2.2.2)
def zN (xs : XS) (k i : Nat) (v : Option Nat) : XS := (xs.1, xs.2.1, xs.2.2.1, xs.2.2.2.1, xs.2.2.2.2.1, va_up xs.2.2.2.2.2 k (va_up (xs.2.2.2.2.2 k) i v))
section
variable {α β : Type} {f : α → Mo β} {h : gH}
theorem ev_I {cs : List Nat} {a k : Nat} {c : Nat} {fs : List Value} {v : Int32} {f : Int32 → Mo β} (e : h.1 a = .inr (c, fs)) (hc : c ∈ cs) (hk : fs[k]? = some (.int v)) : (Mo.bind (gI cs a k) f).1 h = (f v).1 h := by
  refine Mo.bind_of ?_
  unfold gI Mo.rd gFld
  simp only [e, if_pos hc, hk]
  rfl
theorem ev_L {cs : List Nat} {a k : Nat} {c : Nat} {fs : List Value} {v : Int64} {f : Int64 → Mo β} (e : h.1 a = .inr (c, fs)) (hc : c ∈ cs) (hk : fs[k]? = some (.long v)) : (Mo.bind (gL cs a k) f).1 h = (f v).1 h := by
  refine Mo.bind_of ?_
  unfold gL Mo.rd gFld
  simp only [e, if_pos hc, hk]
  rfl
theorem ev_Z {cs : List Nat} {a k : Nat} {c : Nat} {fs : List Value} {v : Bool} {f : Bool → Mo β} (e : h.1 a = .inr (c, fs)) (hc : c ∈ cs) (hk : fs[k]? = some (.int (b2i v))) : (Mo.bind (gZ cs a k) f).1 h = (f v).1 h := by
  refine Mo.bind_of ?_
  unfold gZ Mo.rd gFld
  simp only [e, if_pos hc, hk]
  cases v <;> rfl
theorem ev_R {cs : List Nat} {a k : Nat} {c : Nat} {fs : List Value} {v : Nat} {f : Nat → Mo β} (e : h.1 a = .inr (c, fs)) (hc : c ∈ cs) (hk : fs[k]? = some (.ref v)) : (Mo.bind (gR cs a k) f).1 h = (f v).1 h := by
  refine Mo.bind_of ?_
  unfold gR Mo.rd gFld
  simp only [e, if_pos hc, hk]
  rfl
theorem ev_N {cs : List Nat} {a k : Nat} {c : Nat} {fs : List Value} {v : Option Nat} {f : Option Nat → Mo β} (e : h.1 a = .inr (c, fs)) (hc : c ∈ cs) (hk : fs[k]? = some (va_rf v)) : (Mo.bind (gNu cs a k) f).1 h = (f v).1 h := by
  refine Mo.bind_of ?_
  unfold gNu Mo.rd gFld
  simp only [e, if_pos hc, hk]
  cases v <;> rfl
theorem ev_chk {cs : List Nat} {a : Nat} {c : Nat} {fs : List Value} {f : Unit → Mo β} (e : h.1 a = .inr (c, fs)) (hc : c ∈ cs) : (Mo.bind (chk cs a) f).1 h = (f ()).1 h := by
  refine Mo.bind_of ?_
  unfold chk Mo.rd gOk
  simp [e, hc]
theorem ev_put {cs : List Nat} {a k : Nat} {c : Nat} {fs : List Value} {v : Value} {f : Unit → Mo β} (e : h.1 a = .inr (c, fs)) (hc : c ∈ cs) (hk : k < fs.length) : (Mo.bind (pF cs a k v) f).1 h = (f ()).1 (va_up h.1 a (.inr (c, fs.set k v)), h.2) := Mo.bind_of (pF_ok e hc hk)
theorem ev_ald {kd a n : Nat} {i : Int32} {g : Nat → Int32} {f : Int32 → Mo β} (e : h.1 a = .inl (kd, n, .inl g)) (hi : gIn i n = true) : (Mo.bind (aldI kd a i) f).1 h = (f (g i.toNatClampNeg)).1 h := by
  refine Mo.bind_of ?_
  unfold aldI Mo.rd
  simp only [e, hi]
  simp
theorem ev_aldL {a n : Nat} {i : Int32} {g : Nat → Int64} {f : Int64 → Mo β} (e : h.1 a = .inl (1, n, .inr (.inl g))) (hi : gIn i n = true) : (Mo.bind (aldL a i) f).1 h = (f (g i.toNatClampNeg)).1 h := by
  refine Mo.bind_of ?_
  unfold aldL Mo.rd
  simp only [e, hi]
  simp
theorem ev_aldN {kd a n : Nat} {i : Int32} {g : Nat → Option Nat} {f : Option Nat → Mo β} (e : h.1 a = .inl (kd, n, .inr (.inr g))) (hi : gIn i n = true) : (Mo.bind (aldN kd a i) f).1 h = (f (g i.toNatClampNeg)).1 h := by
  refine Mo.bind_of ?_
  unfold aldN Mo.rd
  simp only [e, hi]
  simp
theorem ev_aldR {kd a n : Nat} {i : Int32} {g : Nat → Option Nat} {v : Nat} {f : Nat → Mo β} (e : h.1 a = .inl (kd, n, .inr (.inr g))) (hi : gIn i n = true) (hv : g i.toNatClampNeg = some v) : (Mo.bind (aldR kd a i) f).1 h = (f v).1 h := by
  refine Mo.bind_of ?_
  unfold aldR
  rw [ev_aldN e hi, hv]
  rfl
theorem ev_alen {kds : List Nat} {kd a n : Nat} {g : (Nat → Int32) ⊕ (Nat → Int64) ⊕ (Nat → Option Nat)} {f : Int32 → Mo β} (e : h.1 a = .inl (kd, n, g)) (hk : kd ∈ kds) : (Mo.bind (alen kds a) f).1 h = (f (nI n)).1 h := by
  refine Mo.bind_of ?_
  unfold alen Mo.rd
  simp only [e, if_pos hk]
  rfl
theorem ev_ast {kd a n : Nat} {i x : Int32} {g : Nat → Int32} {f : Unit → Mo β} (e : h.1 a = .inl (kd, n, .inl g)) (hi : gIn i n = true) : (Mo.bind (astI kd a i x) f).1 h = (f ()).1 (va_up h.1 a (.inl (kd, n, .inl (va_up g i.toNatClampNeg x))), h.2) := by
  refine Mo.bind_of ?_
  unfold astI Mo.wr
  simp only [e, hi]
  simp
theorem ev_astN {kd a n : Nat} {cs : List Nat} {i : Int32} {x : Option Nat} {g : Nat → Option Nat} {f : Unit → Mo β} (e : h.1 a = .inl (kd, n, .inr (.inr g))) (hi : gIn i n = true) (hx : gOk cs x h = true) : (Mo.bind (astN kd a cs i x) f).1 h = (f ()).1 (va_up h.1 a (.inl (kd, n, .inr (.inr (va_up g i.toNatClampNeg x)))), h.2) := by
  refine Mo.bind_of ?_
  unfold astN Mo.wr
  simp only [e, hi, hx]
  simp
theorem ev_astL {a n : Nat} {i : Int32} {x : Int64} {g : Nat → Int64} {f : Unit → Mo β} (e : h.1 a = .inl (1, n, .inr (.inl g))) (hi : gIn i n = true) : (Mo.bind (astL a i x) f).1 h = (f ()).1 (va_up h.1 a (.inl (1, n, .inr (.inl (va_up g i.toNatClampNeg x)))), h.2) := by
  refine Mo.bind_of ?_
  unfold astL Mo.wr
  simp only [e, hi]
  simp
theorem ev_lv {a : α} : (Mo.lv a f).1 h = (f a).1 h := rfl
theorem ev_call {x : Mo α} {v : α} {h1 : gH} (e : x.1 h = some (v, h1)) : (Mo.bind x f).1 h = (f v).1 h1 := Mo.bind_of e
theorem ev_pure {a : α} : (Mo.bind (Mo.pure a) f).1 h = (f a).1 h := rfl
end
section
variable {ax : Nat} {g : gH} {xs : XS} {β : Type}
theorem x_chk {f : Unit → Mo β} : (Mo.bind (chk [0] ax) f).1 (mkX ax g xs) = (f ()).1 (mkX ax g xs) := ev_chk (mkX_at0 ax g xs) (by decide)
theorem x_I1 {f : Int32 → Mo β} : (Mo.bind (gI [0] ax 1) f).1 (mkX ax g xs) = (f (xs.1 1)).1 (mkX ax g xs) := ev_I (mkX_at0 ax g xs) (by decide) rfl
theorem x_sI1 {v : Int32} {f : Unit → Mo β} : (Mo.bind (pF [0] ax 1 (.int v)) f).1 (mkX ax g xs) = (f ()).1 (mkX ax g (zI xs 1 v)) := by
  rw [ev_put (mkX_at0 ax g xs) (by decide) (Nat.le_of_ble_eq_true rfl)]
  exact congrArg (f ()).1 (mkX_up (o := 0) (fun d => rfl) (fun d o' ho => by unfold xCell; split <;> first | rfl | exact absurd rfl ho))
theorem x_I2 {f : Int32 → Mo β} : (Mo.bind (gI [0] ax 2) f).1 (mkX ax g xs) = (f (xs.1 2)).1 (mkX ax g xs) := ev_I (mkX_at0 ax g xs) (by decide) rfl
theorem x_sI2 {v : Int32} {f : Unit → Mo β} : (Mo.bind (pF [0] ax 2 (.int v)) f).1 (mkX ax g xs) = (f ()).1 (mkX ax g (zI xs 2 v)) := by
  rw [ev_put (mkX_at0 ax g xs) (by decide) (Nat.le_of_ble_eq_true rfl)]
  exact congrArg (f ()).1 (mkX_up (o := 0) (fun d => rfl) (fun d o' ho => by unfold xCell; split <;> first | rfl | exact absurd rfl ho))
theorem x_I3 {f : Int32 → Mo β} : (Mo.bind (gI [0] ax 3) f).1 (mkX ax g xs) = (f (xs.1 3)).1 (mkX ax g xs) := ev_I (mkX_at0 ax g xs) (by decide) rfl
theorem x_sI3 {v : Int32} {f : Unit → Mo β} : (Mo.bind (pF [0] ax 3 (.int v)) f).1 (mkX ax g xs) = (f ()).1 (mkX ax g (zI xs 3 v)) := by
  rw [ev_put (mkX_at0 ax g xs) (by decide) (Nat.le_of_ble_eq_true rfl)]
  exact congrArg (f ()).1 (mkX_up (o := 0) (fun d => rfl) (fun d o' ho => by unfold xCell; split <;> first | rfl | exact absurd rfl ho))
theorem x_I14 {f : Int32 → Mo β} : (Mo.bind (gI [0] ax 14) f).1 (mkX ax g xs) = (f (xs.1 14)).1 (mkX ax g xs) := ev_I (mkX_at0 ax g xs) (by decide) rfl
theorem x_sI14 {v : Int32} {f : Unit → Mo β} : (Mo.bind (pF [0] ax 14 (.int v)) f).1 (mkX ax g xs) = (f ()).1 (mkX ax g (zI xs 14 v)) := by
  rw [ev_put (mkX_at0 ax g xs) (by decide) (Nat.le_of_ble_eq_true rfl)]
  exact congrArg (f ()).1 (mkX_up (o := 0) (fun d => rfl) (fun d o' ho => by unfold xCell; split <;> first | rfl | exact absurd rfl ho))
theorem x_I18 {f : Int32 → Mo β} : (Mo.bind (gI [0] ax 18) f).1 (mkX ax g xs) = (f (xs.1 18)).1 (mkX ax g xs) := ev_I (mkX_at0 ax g xs) (by decide) rfl
theorem x_sI18 {v : Int32} {f : Unit → Mo β} : (Mo.bind (pF [0] ax 18 (.int v)) f).1 (mkX ax g xs) = (f ()).1 (mkX ax g (zI xs 18 v)) := by
  rw [ev_put (mkX_at0 ax g xs) (by decide) (Nat.le_of_ble_eq_true rfl)]
  exact congrArg (f ()).1 (mkX_up (o := 0) (fun d => rfl) (fun d o' ho => by unfold xCell; split <;> first | rfl | exact absurd rfl ho))
theorem x_I19 {f : Int32 → Mo β} : (Mo.bind (gI [0] ax 19) f).1 (mkX ax g xs) = (f (xs.1 19)).1 (mkX ax g xs) := ev_I (mkX_at0 ax g xs) (by decide) rfl
theorem x_sI19 {v : Int32} {f : Unit → Mo β} : (Mo.bind (pF [0] ax 19 (.int v)) f).1 (mkX ax g xs) = (f ()).1 (mkX ax g (zI xs 19 v)) := by
  rw [ev_put (mkX_at0 ax g xs) (by decide) (Nat.le_of_ble_eq_true rfl)]
  exact congrArg (f ()).1 (mkX_up (o := 0) (fun d => rfl) (fun d o' ho => by unfold xCell; split <;> first | rfl | exact absurd rfl ho))
theorem x_I20 {f : Int32 → Mo β} : (Mo.bind (gI [0] ax 20) f).1 (mkX ax g xs) = (f (xs.1 20)).1 (mkX ax g xs) := ev_I (mkX_at0 ax g xs) (by decide) rfl
theorem x_sI20 {v : Int32} {f : Unit → Mo β} : (Mo.bind (pF [0] ax 20 (.int v)) f).1 (mkX ax g xs) = (f ()).1 (mkX ax g (zI xs 20 v)) := by
  rw [ev_put (mkX_at0 ax g xs) (by decide) (Nat.le_of_ble_eq_true rfl)]
  exact congrArg (f ()).1 (mkX_up (o := 0) (fun d => rfl) (fun d o' ho => by unfold xCell; split <;> first | rfl | exact absurd rfl ho))
theorem x_I24 {f : Int32 → Mo β} : (Mo.bind (gI [0] ax 24) f).1 (mkX ax g xs) = (f (xs.1 24)).1 (mkX ax g xs) := ev_I (mkX_at0 ax g xs) (by decide) rfl
theorem x_sI24 {v : Int32} {f : Unit → Mo β} : (Mo.bind (pF [0] ax 24 (.int v)) f).1 (mkX ax g xs) = (f ()).1 (mkX ax g (zI xs 24 v)) := by
  rw [ev_put (mkX_at0 ax g xs) (by decide) (Nat.le_of_ble_eq_true rfl)]
  exact congrArg (f ()).1 (mkX_up (o := 0) (fun d => rfl) (fun d o' ho => by unfold xCell; split <;> first | rfl | exact absurd rfl ho))
theorem x_I25 {f : Int32 → Mo β} : (Mo.bind (gI [0] ax 25) f).1 (mkX ax g xs) = (f (xs.1 25)).1 (mkX ax g xs) := ev_I (mkX_at0 ax g xs) (by decide) rfl
theorem x_sI25 {v : Int32} {f : Unit → Mo β} : (Mo.bind (pF [0] ax 25 (.int v)) f).1 (mkX ax g xs) = (f ()).1 (mkX ax g (zI xs 25 v)) := by
  rw [ev_put (mkX_at0 ax g xs) (by decide) (Nat.le_of_ble_eq_true rfl)]
  exact congrArg (f ()).1 (mkX_up (o := 0) (fun d => rfl) (fun d o' ho => by unfold xCell; split <;> first | rfl | exact absurd rfl ho))
theorem x_I31 {f : Int32 → Mo β} : (Mo.bind (gI [0] ax 31) f).1 (mkX ax g xs) = (f (xs.1 31)).1 (mkX ax g xs) := ev_I (mkX_at0 ax g xs) (by decide) rfl
theorem x_sI31 {v : Int32} {f : Unit → Mo β} : (Mo.bind (pF [0] ax 31 (.int v)) f).1 (mkX ax g xs) = (f ()).1 (mkX ax g (zI xs 31 v)) := by
  rw [ev_put (mkX_at0 ax g xs) (by decide) (Nat.le_of_ble_eq_true rfl)]
  exact congrArg (f ()).1 (mkX_up (o := 0) (fun d => rfl) (fun d o' ho => by unfold xCell; split <;> first | rfl | exact absurd rfl ho))
theorem x_I33 {f : Int32 → Mo β} : (Mo.bind (gI [0] ax 33) f).1 (mkX ax g xs) = (f (xs.1 33)).1 (mkX ax g xs) := ev_I (mkX_at0 ax g xs) (by decide) rfl
theorem x_sI33 {v : Int32} {f : Unit → Mo β} : (Mo.bind (pF [0] ax 33 (.int v)) f).1 (mkX ax g xs) = (f ()).1 (mkX ax g (zI xs 33 v)) := by
  rw [ev_put (mkX_at0 ax g xs) (by decide) (Nat.le_of_ble_eq_true rfl)]
  exact congrArg (f ()).1 (mkX_up (o := 0) (fun d => rfl) (fun d o' ho => by unfold xCell; split <;> first | rfl | exact absurd rfl ho))
theorem x_I38 {f : Int32 → Mo β} : (Mo.bind (gI [0] ax 38) f).1 (mkX ax g xs) = (f (xs.1 38)).1 (mkX ax g xs) := ev_I (mkX_at0 ax g xs) (by decide) rfl
theorem x_sI38 {v : Int32} {f : Unit → Mo β} : (Mo.bind (pF [0] ax 38 (.int v)) f).1 (mkX ax g xs) = (f ()).1 (mkX ax g (zI xs 38 v)) := by
  rw [ev_put (mkX_at0 ax g xs) (by decide) (Nat.le_of_ble_eq_true rfl)]
  exact congrArg (f ()).1 (mkX_up (o := 0) (fun d => rfl) (fun d o' ho => by unfold xCell; split <;> first | rfl | exact absurd rfl ho))
theorem x_I39 {f : Int32 → Mo β} : (Mo.bind (gI [0] ax 39) f).1 (mkX ax g xs) = (f (xs.1 39)).1 (mkX ax g xs) := ev_I (mkX_at0 ax g xs) (by decide) rfl
theorem x_sI39 {v : Int32} {f : Unit → Mo β} : (Mo.bind (pF [0] ax 39 (.int v)) f).1 (mkX ax g xs) = (f ()).1 (mkX ax g (zI xs 39 v)) := by
  rw [ev_put (mkX_at0 ax g xs) (by decide) (Nat.le_of_ble_eq_true rfl)]
  exact congrArg (f ()).1 (mkX_up (o := 0) (fun d => rfl) (fun d o' ho => by unfold xCell; split <;> first | rfl | exact absurd rfl ho))
theorem x_Z33 {f : Bool → Mo β} {v : Bool} (e : xs.1 33 = b2i v) : (Mo.bind (gZ [0] ax 33) f).1 (mkX ax g xs) = (f v).1 (mkX ax g xs) := ev_Z (mkX_at0 ax g xs) (by decide) (by show some (Value.int (xs.1 33)) = _; rw [e])
theorem x_R0 {f : Nat → Mo β} : (Mo.bind (gR [0] ax 0) f).1 (mkX ax g xs) = (f (ax + 1)).1 (mkX ax g xs) := ev_R (mkX_at0 ax g xs) (by decide) rfl
theorem x_R4 {f : Nat → Mo β} : (Mo.bind (gR [0] ax 4) f).1 (mkX ax g xs) = (f (ax + 2)).1 (mkX ax g xs) := ev_R (mkX_at0 ax g xs) (by decide) rfl
theorem x_R5 {f : Nat → Mo β} : (Mo.bind (gR [0] ax 5) f).1 (mkX ax g xs) = (f (ax + 3)).1 (mkX ax g xs) := ev_R (mkX_at0 ax g xs) (by decide) rfl
theorem x_R6 {f : Nat → Mo β} : (Mo.bind (gR [0] ax 6) f).1 (mkX ax g xs) = (f (ax + 4)).1 (mkX ax g xs) := ev_R (mkX_at0 ax g xs) (by decide) rfl
theorem x_R7 {f : Nat → Mo β} : (Mo.bind (gR [0] ax 7) f).1 (mkX ax g xs) = (f (ax + 5)).1 (mkX ax g xs) := ev_R (mkX_at0 ax g xs) (by decide) rfl
theorem x_R8 {f : Nat → Mo β} : (Mo.bind (gR [0] ax 8) f).1 (mkX ax g xs) = (f (ax + 6)).1 (mkX ax g xs) := ev_R (mkX_at0 ax g xs) (by decide) rfl
theorem x_R9 {f : Nat → Mo β} : (Mo.bind (gR [0] ax 9) f).1 (mkX ax g xs) = (f (ax + 7)).1 (mkX ax g xs) := ev_R (mkX_at0 ax g xs) (by decide) rfl
theorem x_R10 {f : Nat → Mo β} : (Mo.bind (gR [0] ax 10) f).1 (mkX ax g xs) = (f (ax + 15)).1 (mkX ax g xs) := ev_R (mkX_at0 ax g xs) (by decide) rfl
theorem x_R12 {f : Nat → Mo β} : (Mo.bind (gR [0] ax 12) f).1 (mkX ax g xs) = (f (ax + 25)).1 (mkX ax g xs) := ev_R (mkX_at0 ax g xs) (by decide) rfl
theorem x_R13 {f : Nat → Mo β} : (Mo.bind (gR [0] ax 13) f).1 (mkX ax g xs) = (f (ax + 26)).1 (mkX ax g xs) := ev_R (mkX_at0 ax g xs) (by decide) rfl
theorem x_R15 {f : Nat → Mo β} : (Mo.bind (gR [0] ax 15) f).1 (mkX ax g xs) = (f (ax + 27)).1 (mkX ax g xs) := ev_R (mkX_at0 ax g xs) (by decide) rfl
theorem x_R16 {f : Nat → Mo β} : (Mo.bind (gR [0] ax 16) f).1 (mkX ax g xs) = (f (ax + 28)).1 (mkX ax g xs) := ev_R (mkX_at0 ax g xs) (by decide) rfl
theorem x_R17 {f : Nat → Mo β} : (Mo.bind (gR [0] ax 17) f).1 (mkX ax g xs) = (f (ax + 29)).1 (mkX ax g xs) := ev_R (mkX_at0 ax g xs) (by decide) rfl
theorem x_R21 {f : Nat → Mo β} : (Mo.bind (gR [0] ax 21) f).1 (mkX ax g xs) = (f (ax + 30)).1 (mkX ax g xs) := ev_R (mkX_at0 ax g xs) (by decide) rfl
theorem x_R22 {f : Nat → Mo β} : (Mo.bind (gR [0] ax 22) f).1 (mkX ax g xs) = (f (ax + 31)).1 (mkX ax g xs) := ev_R (mkX_at0 ax g xs) (by decide) rfl
theorem x_R23 {f : Nat → Mo β} : (Mo.bind (gR [0] ax 23) f).1 (mkX ax g xs) = (f (ax + 32)).1 (mkX ax g xs) := ev_R (mkX_at0 ax g xs) (by decide) rfl
theorem x_R26 {f : Nat → Mo β} : (Mo.bind (gR [0] ax 26) f).1 (mkX ax g xs) = (f (ax + 33)).1 (mkX ax g xs) := ev_R (mkX_at0 ax g xs) (by decide) rfl
theorem x_R27 {f : Nat → Mo β} : (Mo.bind (gR [0] ax 27) f).1 (mkX ax g xs) = (f (ax + 34)).1 (mkX ax g xs) := ev_R (mkX_at0 ax g xs) (by decide) rfl
theorem x_R28 {f : Nat → Mo β} : (Mo.bind (gR [0] ax 28) f).1 (mkX ax g xs) = (f (ax + 35)).1 (mkX ax g xs) := ev_R (mkX_at0 ax g xs) (by decide) rfl
theorem x_R29 {f : Nat → Mo β} : (Mo.bind (gR [0] ax 29) f).1 (mkX ax g xs) = (f (ax + 36)).1 (mkX ax g xs) := ev_R (mkX_at0 ax g xs) (by decide) rfl
theorem x_R30 {f : Nat → Mo β} : (Mo.bind (gR [0] ax 30) f).1 (mkX ax g xs) = (f (ax + 37)).1 (mkX ax g xs) := ev_R (mkX_at0 ax g xs) (by decide) rfl
theorem x_R32 {f : Nat → Mo β} : (Mo.bind (gR [0] ax 32) f).1 (mkX ax g xs) = (f (ax + 38)).1 (mkX ax g xs) := ev_R (mkX_at0 ax g xs) (by decide) rfl
theorem x_R34 {f : Nat → Mo β} : (Mo.bind (gR [0] ax 34) f).1 (mkX ax g xs) = (f (ax + 39)).1 (mkX ax g xs) := ev_R (mkX_at0 ax g xs) (by decide) rfl
theorem x_R35 {f : Nat → Mo β} : (Mo.bind (gR [0] ax 35) f).1 (mkX ax g xs) = (f (ax + 40)).1 (mkX ax g xs) := ev_R (mkX_at0 ax g xs) (by decide) rfl
theorem x_R36 {f : Nat → Mo β} : (Mo.bind (gR [0] ax 36) f).1 (mkX ax g xs) = (f (ax + 41)).1 (mkX ax g xs) := ev_R (mkX_at0 ax g xs) (by decide) rfl
theorem x_R37 {f : Nat → Mo β} : (Mo.bind (gR [0] ax 37) f).1 (mkX ax g xs) = (f (ax + 42)).1 (mkX ax g xs) := ev_R (mkX_at0 ax g xs) (by decide) rfl
theorem x_R40 {f : Nat → Mo β} : (Mo.bind (gR [0] ax 40) f).1 (mkX ax g xs) = (f (ax + 43)).1 (mkX ax g xs) := ev_R (mkX_at0 ax g xs) (by decide) rfl
theorem x_R41 {f : Nat → Mo β} : (Mo.bind (gR [0] ax 41) f).1 (mkX ax g xs) = (f (ax + 44)).1 (mkX ax g xs) := ev_R (mkX_at0 ax g xs) (by decide) rfl
theorem x_R43 {f : Nat → Mo β} : (Mo.bind (gR [0] ax 43) f).1 (mkX ax g xs) = (f (ax + 47)).1 (mkX ax g xs) := ev_R (mkX_at0 ax g xs) (by decide) rfl
theorem x_R44 {f : Nat → Mo β} : (Mo.bind (gR [0] ax 44) f).1 (mkX ax g xs) = (f (ax + 48)).1 (mkX ax g xs) := ev_R (mkX_at0 ax g xs) (by decide) rfl
theorem x_R45 {f : Nat → Mo β} : (Mo.bind (gR [0] ax 45) f).1 (mkX ax g xs) = (f (ax + 49)).1 (mkX ax g xs) := ev_R (mkX_at0 ax g xs) (by decide) rfl
theorem x_R11 {f : Nat → Mo β} {v : Nat} (e : xs.2.1 11 = some v) : (Mo.bind (gR [0] ax 11) f).1 (mkX ax g xs) = (f v).1 (mkX ax g xs) := ev_R (mkX_at0 ax g xs) (by decide) (by show some (va_rf (xs.2.1 11)) = _; rw [e]; rfl)
theorem x_R42 {f : Nat → Mo β} {v : Nat} (e : xs.2.1 42 = some v) : (Mo.bind (gR [0] ax 42) f).1 (mkX ax g xs) = (f v).1 (mkX ax g xs) := ev_R (mkX_at0 ax g xs) (by decide) (by show some (va_rf (xs.2.1 42)) = _; rw [e]; rfl)
theorem x_N42 {f : Option Nat → Mo β} : (Mo.bind (gNu [0] ax 42) f).1 (mkX ax g xs) = (f (xs.2.1 42)).1 (mkX ax g xs) := ev_N (mkX_at0 ax g xs) (by decide) rfl
theorem x_sR11 {v : Option Nat} {f : Unit → Mo β} : (Mo.bind (pF [0] ax 11 (va_rf v)) f).1 (mkX ax g xs) = (f ()).1 (mkX ax g (zR xs 11 v)) := by
  rw [ev_put (mkX_at0 ax g xs) (by decide) (Nat.le_of_ble_eq_true rfl)]
  exact congrArg (f ()).1 (mkX_up (o := 0) (fun d => rfl) (fun d o' ho => by unfold xCell; split <;> first | rfl | exact absurd rfl ho))
theorem x_sR42 {v : Option Nat} {f : Unit → Mo β} : (Mo.bind (pF [0] ax 42 (va_rf v)) f).1 (mkX ax g xs) = (f ()).1 (mkX ax g (zR xs 42 v)) := by
  rw [ev_put (mkX_at0 ax g xs) (by decide) (Nat.le_of_ble_eq_true rfl)]
  exact congrArg (f ()).1 (mkX_up (o := 0) (fun d => rfl) (fun d o' ho => by unfold xCell; split <;> first | rfl | exact absurd rfl ho))
theorem x_at1 : (mkX ax g xs).1 (ax + 1) = .inl (2, 940, .inl (xs.2.2.1 0)) := mkX_at ax g xs 1
theorem x_A1 {i : Int32} {f : Int32 → Mo β} (hi : gIn i 940 = true) : (Mo.bind (aldI 2 (ax + 1) i) f).1 (mkX ax g xs) = (f (xs.2.2.1 0 i.toNatClampNeg)).1 (mkX ax g xs) := ev_ald x_at1 hi
theorem x_sA1 {i v : Int32} {f : Unit → Mo β} (hi : gIn i 940 = true) : (Mo.bind (astI 2 (ax + 1) i v) f).1 (mkX ax g xs) = (f ()).1 (mkX ax g (zA xs 0 i.toNatClampNeg v)) := by
  rw [ev_ast x_at1 hi]
  exact congrArg (f ()).1 (mkX_up (o := 1) (fun d => by simp [xCell, zA, va_up]) (fun d o' ho => by unfold xCell; split <;> first | rfl | exact absurd rfl ho))
theorem x_at27 : (mkX ax g xs).1 (ax + 27) = .inl (0, 10, .inl (xs.2.2.1 15)) := mkX_at ax g xs 27
theorem x_A27 {i : Int32} {f : Int32 → Mo β} (hi : gIn i 10 = true) : (Mo.bind (aldI 0 (ax + 27) i) f).1 (mkX ax g xs) = (f (xs.2.2.1 15 i.toNatClampNeg)).1 (mkX ax g xs) := ev_ald x_at27 hi
theorem x_sA27 {i v : Int32} {f : Unit → Mo β} (hi : gIn i 10 = true) : (Mo.bind (astI 0 (ax + 27) i v) f).1 (mkX ax g xs) = (f ()).1 (mkX ax g (zA xs 15 i.toNatClampNeg v)) := by
  rw [ev_ast x_at27 hi]
  exact congrArg (f ()).1 (mkX_up (o := 27) (fun d => by simp [xCell, zA, va_up]) (fun d o' ho => by unfold xCell; split <;> first | rfl | exact absurd rfl ho))
theorem x_at28 : (mkX ax g xs).1 (ax + 28) = .inl (0, 10, .inl (xs.2.2.1 16)) := mkX_at ax g xs 28
theorem x_A28 {i : Int32} {f : Int32 → Mo β} (hi : gIn i 10 = true) : (Mo.bind (aldI 0 (ax + 28) i) f).1 (mkX ax g xs) = (f (xs.2.2.1 16 i.toNatClampNeg)).1 (mkX ax g xs) := ev_ald x_at28 hi
theorem x_sA28 {i v : Int32} {f : Unit → Mo β} (hi : gIn i 10 = true) : (Mo.bind (astI 0 (ax + 28) i v) f).1 (mkX ax g xs) = (f ()).1 (mkX ax g (zA xs 16 i.toNatClampNeg v)) := by
  rw [ev_ast x_at28 hi]
  exact congrArg (f ()).1 (mkX_up (o := 28) (fun d => by simp [xCell, zA, va_up]) (fun d o' ho => by unfold xCell; split <;> first | rfl | exact absurd rfl ho))
theorem x_at29 : (mkX ax g xs).1 (ax + 29) = .inl (0, 10, .inl (xs.2.2.1 17)) := mkX_at ax g xs 29
theorem x_A29 {i : Int32} {f : Int32 → Mo β} (hi : gIn i 10 = true) : (Mo.bind (aldI 0 (ax + 29) i) f).1 (mkX ax g xs) = (f (xs.2.2.1 17 i.toNatClampNeg)).1 (mkX ax g xs) := ev_ald x_at29 hi
theorem x_sA29 {i v : Int32} {f : Unit → Mo β} (hi : gIn i 10 = true) : (Mo.bind (astI 0 (ax + 29) i v) f).1 (mkX ax g xs) = (f ()).1 (mkX ax g (zA xs 17 i.toNatClampNeg v)) := by
  rw [ev_ast x_at29 hi]
  exact congrArg (f ()).1 (mkX_up (o := 29) (fun d => by simp [xCell, zA, va_up]) (fun d o' ho => by unfold xCell; split <;> first | rfl | exact absurd rfl ho))
theorem x_at30 : (mkX ax g xs).1 (ax + 30) = .inl (0, 10, .inl (xs.2.2.1 21)) := mkX_at ax g xs 30
theorem x_A30 {i : Int32} {f : Int32 → Mo β} (hi : gIn i 10 = true) : (Mo.bind (aldI 0 (ax + 30) i) f).1 (mkX ax g xs) = (f (xs.2.2.1 21 i.toNatClampNeg)).1 (mkX ax g xs) := ev_ald x_at30 hi
theorem x_sA30 {i v : Int32} {f : Unit → Mo β} (hi : gIn i 10 = true) : (Mo.bind (astI 0 (ax + 30) i v) f).1 (mkX ax g xs) = (f ()).1 (mkX ax g (zA xs 21 i.toNatClampNeg v)) := by
  rw [ev_ast x_at30 hi]
  exact congrArg (f ()).1 (mkX_up (o := 30) (fun d => by simp [xCell, zA, va_up]) (fun d o' ho => by unfold xCell; split <;> first | rfl | exact absurd rfl ho))
theorem x_at31 : (mkX ax g xs).1 (ax + 31) = .inl (0, 10, .inl (xs.2.2.1 22)) := mkX_at ax g xs 31
theorem x_A31 {i : Int32} {f : Int32 → Mo β} (hi : gIn i 10 = true) : (Mo.bind (aldI 0 (ax + 31) i) f).1 (mkX ax g xs) = (f (xs.2.2.1 22 i.toNatClampNeg)).1 (mkX ax g xs) := ev_ald x_at31 hi
theorem x_sA31 {i v : Int32} {f : Unit → Mo β} (hi : gIn i 10 = true) : (Mo.bind (astI 0 (ax + 31) i v) f).1 (mkX ax g xs) = (f ()).1 (mkX ax g (zA xs 22 i.toNatClampNeg v)) := by
  rw [ev_ast x_at31 hi]
  exact congrArg (f ()).1 (mkX_up (o := 31) (fun d => by simp [xCell, zA, va_up]) (fun d o' ho => by unfold xCell; split <;> first | rfl | exact absurd rfl ho))
theorem x_at32 : (mkX ax g xs).1 (ax + 32) = .inl (0, 10, .inl (xs.2.2.1 23)) := mkX_at ax g xs 32
theorem x_A32 {i : Int32} {f : Int32 → Mo β} (hi : gIn i 10 = true) : (Mo.bind (aldI 0 (ax + 32) i) f).1 (mkX ax g xs) = (f (xs.2.2.1 23 i.toNatClampNeg)).1 (mkX ax g xs) := ev_ald x_at32 hi
theorem x_sA32 {i v : Int32} {f : Unit → Mo β} (hi : gIn i 10 = true) : (Mo.bind (astI 0 (ax + 32) i v) f).1 (mkX ax g xs) = (f ()).1 (mkX ax g (zA xs 23 i.toNatClampNeg v)) := by
  rw [ev_ast x_at32 hi]
  exact congrArg (f ()).1 (mkX_up (o := 32) (fun d => by simp [xCell, zA, va_up]) (fun d o' ho => by unfold xCell; split <;> first | rfl | exact absurd rfl ho))
theorem x_at33 : (mkX ax g xs).1 (ax + 33) = .inl (0, 10, .inl (xs.2.2.1 26)) := mkX_at ax g xs 33
theorem x_A33 {i : Int32} {f : Int32 → Mo β} (hi : gIn i 10 = true) : (Mo.bind (aldI 0 (ax + 33) i) f).1 (mkX ax g xs) = (f (xs.2.2.1 26 i.toNatClampNeg)).1 (mkX ax g xs) := ev_ald x_at33 hi
theorem x_sA33 {i v : Int32} {f : Unit → Mo β} (hi : gIn i 10 = true) : (Mo.bind (astI 0 (ax + 33) i v) f).1 (mkX ax g xs) = (f ()).1 (mkX ax g (zA xs 26 i.toNatClampNeg v)) := by
  rw [ev_ast x_at33 hi]
  exact congrArg (f ()).1 (mkX_up (o := 33) (fun d => by simp [xCell, zA, va_up]) (fun d o' ho => by unfold xCell; split <;> first | rfl | exact absurd rfl ho))
theorem x_at34 : (mkX ax g xs).1 (ax + 34) = .inl (0, 10, .inl (xs.2.2.1 27)) := mkX_at ax g xs 34
theorem x_A34 {i : Int32} {f : Int32 → Mo β} (hi : gIn i 10 = true) : (Mo.bind (aldI 0 (ax + 34) i) f).1 (mkX ax g xs) = (f (xs.2.2.1 27 i.toNatClampNeg)).1 (mkX ax g xs) := ev_ald x_at34 hi
theorem x_sA34 {i v : Int32} {f : Unit → Mo β} (hi : gIn i 10 = true) : (Mo.bind (astI 0 (ax + 34) i v) f).1 (mkX ax g xs) = (f ()).1 (mkX ax g (zA xs 27 i.toNatClampNeg v)) := by
  rw [ev_ast x_at34 hi]
  exact congrArg (f ()).1 (mkX_up (o := 34) (fun d => by simp [xCell, zA, va_up]) (fun d o' ho => by unfold xCell; split <;> first | rfl | exact absurd rfl ho))
theorem x_at35 : (mkX ax g xs).1 (ax + 35) = .inl (0, 10, .inl (xs.2.2.1 28)) := mkX_at ax g xs 35
theorem x_A35 {i : Int32} {f : Int32 → Mo β} (hi : gIn i 10 = true) : (Mo.bind (aldI 0 (ax + 35) i) f).1 (mkX ax g xs) = (f (xs.2.2.1 28 i.toNatClampNeg)).1 (mkX ax g xs) := ev_ald x_at35 hi
theorem x_sA35 {i v : Int32} {f : Unit → Mo β} (hi : gIn i 10 = true) : (Mo.bind (astI 0 (ax + 35) i v) f).1 (mkX ax g xs) = (f ()).1 (mkX ax g (zA xs 28 i.toNatClampNeg v)) := by
  rw [ev_ast x_at35 hi]
  exact congrArg (f ()).1 (mkX_up (o := 35) (fun d => by simp [xCell, zA, va_up]) (fun d o' ho => by unfold xCell; split <;> first | rfl | exact absurd rfl ho))
theorem x_at36 : (mkX ax g xs).1 (ax + 36) = .inl (0, 1024, .inl (xs.2.2.1 29)) := mkX_at ax g xs 36
theorem x_A36 {i : Int32} {f : Int32 → Mo β} (hi : gIn i 1024 = true) : (Mo.bind (aldI 0 (ax + 36) i) f).1 (mkX ax g xs) = (f (xs.2.2.1 29 i.toNatClampNeg)).1 (mkX ax g xs) := ev_ald x_at36 hi
theorem x_sA36 {i v : Int32} {f : Unit → Mo β} (hi : gIn i 1024 = true) : (Mo.bind (astI 0 (ax + 36) i v) f).1 (mkX ax g xs) = (f ()).1 (mkX ax g (zA xs 29 i.toNatClampNeg v)) := by
  rw [ev_ast x_at36 hi]
  exact congrArg (f ()).1 (mkX_up (o := 36) (fun d => by simp [xCell, zA, va_up]) (fun d o' ho => by unfold xCell; split <;> first | rfl | exact absurd rfl ho))
theorem x_at37 : (mkX ax g xs).1 (ax + 37) = .inl (0, 1024, .inl (xs.2.2.1 30)) := mkX_at ax g xs 37
theorem x_A37 {i : Int32} {f : Int32 → Mo β} (hi : gIn i 1024 = true) : (Mo.bind (aldI 0 (ax + 37) i) f).1 (mkX ax g xs) = (f (xs.2.2.1 30 i.toNatClampNeg)).1 (mkX ax g xs) := ev_ald x_at37 hi
theorem x_sA37 {i v : Int32} {f : Unit → Mo β} (hi : gIn i 1024 = true) : (Mo.bind (astI 0 (ax + 37) i v) f).1 (mkX ax g xs) = (f ()).1 (mkX ax g (zA xs 30 i.toNatClampNeg v)) := by
  rw [ev_ast x_at37 hi]
  exact congrArg (f ()).1 (mkX_up (o := 37) (fun d => by simp [xCell, zA, va_up]) (fun d o' ho => by unfold xCell; split <;> first | rfl | exact absurd rfl ho))
theorem x_at38 : (mkX ax g xs).1 (ax + 38) = .inl (0, 5, .inl (xs.2.2.1 32)) := mkX_at ax g xs 38
theorem x_A38 {i : Int32} {f : Int32 → Mo β} (hi : gIn i 5 = true) : (Mo.bind (aldI 0 (ax + 38) i) f).1 (mkX ax g xs) = (f (xs.2.2.1 32 i.toNatClampNeg)).1 (mkX ax g xs) := ev_ald x_at38 hi
theorem x_sA38 {i v : Int32} {f : Unit → Mo β} (hi : gIn i 5 = true) : (Mo.bind (astI 0 (ax + 38) i v) f).1 (mkX ax g xs) = (f ()).1 (mkX ax g (zA xs 32 i.toNatClampNeg v)) := by
  rw [ev_ast x_at38 hi]
  exact congrArg (f ()).1 (mkX_up (o := 38) (fun d => by simp [xCell, zA, va_up]) (fun d o' ho => by unfold xCell; split <;> first | rfl | exact absurd rfl ho))
theorem x_at39 : (mkX ax g xs).1 (ax + 39) = .inl (0, 24300, .inl (xs.2.2.1 34)) := mkX_at ax g xs 39
theorem x_A39 {i : Int32} {f : Int32 → Mo β} (hi : gIn i 24300 = true) : (Mo.bind (aldI 0 (ax + 39) i) f).1 (mkX ax g xs) = (f (xs.2.2.1 34 i.toNatClampNeg)).1 (mkX ax g xs) := ev_ald x_at39 hi
theorem x_sA39 {i v : Int32} {f : Unit → Mo β} (hi : gIn i 24300 = true) : (Mo.bind (astI 0 (ax + 39) i v) f).1 (mkX ax g xs) = (f ()).1 (mkX ax g (zA xs 34 i.toNatClampNeg v)) := by
  rw [ev_ast x_at39 hi]
  exact congrArg (f ()).1 (mkX_up (o := 39) (fun d => by simp [xCell, zA, va_up]) (fun d o' ho => by unfold xCell; split <;> first | rfl | exact absurd rfl ho))
theorem x_at40 : (mkX ax g xs).1 (ax + 40) = .inl (0, 24300, .inl (xs.2.2.1 35)) := mkX_at ax g xs 40
theorem x_A40 {i : Int32} {f : Int32 → Mo β} (hi : gIn i 24300 = true) : (Mo.bind (aldI 0 (ax + 40) i) f).1 (mkX ax g xs) = (f (xs.2.2.1 35 i.toNatClampNeg)).1 (mkX ax g xs) := ev_ald x_at40 hi
theorem x_sA40 {i v : Int32} {f : Unit → Mo β} (hi : gIn i 24300 = true) : (Mo.bind (astI 0 (ax + 40) i v) f).1 (mkX ax g xs) = (f ()).1 (mkX ax g (zA xs 35 i.toNatClampNeg v)) := by
  rw [ev_ast x_at40 hi]
  exact congrArg (f ()).1 (mkX_up (o := 40) (fun d => by simp [xCell, zA, va_up]) (fun d o' ho => by unfold xCell; split <;> first | rfl | exact absurd rfl ho))
theorem x_at41 : (mkX ax g xs).1 (ax + 41) = .inl (0, 24300, .inl (xs.2.2.1 36)) := mkX_at ax g xs 41
theorem x_A41 {i : Int32} {f : Int32 → Mo β} (hi : gIn i 24300 = true) : (Mo.bind (aldI 0 (ax + 41) i) f).1 (mkX ax g xs) = (f (xs.2.2.1 36 i.toNatClampNeg)).1 (mkX ax g xs) := ev_ald x_at41 hi
theorem x_sA41 {i v : Int32} {f : Unit → Mo β} (hi : gIn i 24300 = true) : (Mo.bind (astI 0 (ax + 41) i v) f).1 (mkX ax g xs) = (f ()).1 (mkX ax g (zA xs 36 i.toNatClampNeg v)) := by
  rw [ev_ast x_at41 hi]
  exact congrArg (f ()).1 (mkX_up (o := 41) (fun d => by simp [xCell, zA, va_up]) (fun d o' ho => by unfold xCell; split <;> first | rfl | exact absurd rfl ho))
theorem x_at42 : (mkX ax g xs).1 (ax + 42) = .inl (0, 24300, .inl (xs.2.2.1 37)) := mkX_at ax g xs 42
theorem x_A42 {i : Int32} {f : Int32 → Mo β} (hi : gIn i 24300 = true) : (Mo.bind (aldI 0 (ax + 42) i) f).1 (mkX ax g xs) = (f (xs.2.2.1 37 i.toNatClampNeg)).1 (mkX ax g xs) := ev_ald x_at42 hi
theorem x_sA42 {i v : Int32} {f : Unit → Mo β} (hi : gIn i 24300 = true) : (Mo.bind (astI 0 (ax + 42) i v) f).1 (mkX ax g xs) = (f ()).1 (mkX ax g (zA xs 37 i.toNatClampNeg v)) := by
  rw [ev_ast x_at42 hi]
  exact congrArg (f ()).1 (mkX_up (o := 42) (fun d => by simp [xCell, zA, va_up]) (fun d o' ho => by unfold xCell; split <;> first | rfl | exact absurd rfl ho))
theorem x_at43 : (mkX ax g xs).1 (ax + 43) = .inl (3, 100, .inl (xs.2.2.1 40)) := mkX_at ax g xs 43
theorem x_A43 {i : Int32} {f : Int32 → Mo β} (hi : gIn i 100 = true) : (Mo.bind (aldI 3 (ax + 43) i) f).1 (mkX ax g xs) = (f (xs.2.2.1 40 i.toNatClampNeg)).1 (mkX ax g xs) := ev_ald x_at43 hi
theorem x_sA43 {i v : Int32} {f : Unit → Mo β} (hi : gIn i 100 = true) : (Mo.bind (astI 3 (ax + 43) i v) f).1 (mkX ax g xs) = (f ()).1 (mkX ax g (zA xs 40 i.toNatClampNeg v)) := by
  rw [ev_ast x_at43 hi]
  exact congrArg (f ()).1 (mkX_up (o := 43) (fun d => by simp [xCell, zA, va_up]) (fun d o' ho => by unfold xCell; split <;> first | rfl | exact absurd rfl ho))
theorem x_at13 : (mkX ax g xs).1 (ax + 13) = .inl (0, 10, .inl (xs.2.2.1 200)) := mkX_at ax g xs 13
theorem x_A13 {i : Int32} {f : Int32 → Mo β} (hi : gIn i 10 = true) : (Mo.bind (aldI 0 (ax + 13) i) f).1 (mkX ax g xs) = (f (xs.2.2.1 200 i.toNatClampNeg)).1 (mkX ax g xs) := ev_ald x_at13 hi
theorem x_sA13 {i v : Int32} {f : Unit → Mo β} (hi : gIn i 10 = true) : (Mo.bind (astI 0 (ax + 13) i v) f).1 (mkX ax g xs) = (f ()).1 (mkX ax g (zA xs 200 i.toNatClampNeg v)) := by
  rw [ev_ast x_at13 hi]
  exact congrArg (f ()).1 (mkX_up (o := 13) (fun d => by simp [xCell, zA, va_up]) (fun d o' ho => by unfold xCell; split <;> first | rfl | exact absurd rfl ho))
theorem x_at14 : (mkX ax g xs).1 (ax + 14) = .inl (0, 10, .inl (xs.2.2.1 201)) := mkX_at ax g xs 14
theorem x_A14 {i : Int32} {f : Int32 → Mo β} (hi : gIn i 10 = true) : (Mo.bind (aldI 0 (ax + 14) i) f).1 (mkX ax g xs) = (f (xs.2.2.1 201 i.toNatClampNeg)).1 (mkX ax g xs) := ev_ald x_at14 hi
theorem x_sA14 {i v : Int32} {f : Unit → Mo β} (hi : gIn i 10 = true) : (Mo.bind (astI 0 (ax + 14) i v) f).1 (mkX ax g xs) = (f ()).1 (mkX ax g (zA xs 201 i.toNatClampNeg v)) := by
  rw [ev_ast x_at14 hi]
  exact congrArg (f ()).1 (mkX_up (o := 14) (fun d => by simp [xCell, zA, va_up]) (fun d o' ho => by unfold xCell; split <;> first | rfl | exact absurd rfl ho))
theorem x_at21 : (mkX ax g xs).1 (ax + 21) = .inl (0, 10, .inl (xs.2.2.1 210)) := mkX_at ax g xs 21
theorem x_A21 {i : Int32} {f : Int32 → Mo β} (hi : gIn i 10 = true) : (Mo.bind (aldI 0 (ax + 21) i) f).1 (mkX ax g xs) = (f (xs.2.2.1 210 i.toNatClampNeg)).1 (mkX ax g xs) := ev_ald x_at21 hi
theorem x_sA21 {i v : Int32} {f : Unit → Mo β} (hi : gIn i 10 = true) : (Mo.bind (astI 0 (ax + 21) i v) f).1 (mkX ax g xs) = (f ()).1 (mkX ax g (zA xs 210 i.toNatClampNeg v)) := by
  rw [ev_ast x_at21 hi]
  exact congrArg (f ()).1 (mkX_up (o := 21) (fun d => by simp [xCell, zA, va_up]) (fun d o' ho => by unfold xCell; split <;> first | rfl | exact absurd rfl ho))
theorem x_at22 : (mkX ax g xs).1 (ax + 22) = .inl (0, 10, .inl (xs.2.2.1 211)) := mkX_at ax g xs 22
theorem x_A22 {i : Int32} {f : Int32 → Mo β} (hi : gIn i 10 = true) : (Mo.bind (aldI 0 (ax + 22) i) f).1 (mkX ax g xs) = (f (xs.2.2.1 211 i.toNatClampNeg)).1 (mkX ax g xs) := ev_ald x_at22 hi
theorem x_sA22 {i v : Int32} {f : Unit → Mo β} (hi : gIn i 10 = true) : (Mo.bind (astI 0 (ax + 22) i v) f).1 (mkX ax g xs) = (f ()).1 (mkX ax g (zA xs 211 i.toNatClampNeg v)) := by
  rw [ev_ast x_at22 hi]
  exact congrArg (f ()).1 (mkX_up (o := 22) (fun d => by simp [xCell, zA, va_up]) (fun d o' ho => by unfold xCell; split <;> first | rfl | exact absurd rfl ho))
theorem x_at7 : (mkX ax g xs).1 (ax + 7) = .inr (2, [va_rf (xs.2.1 200), .ref (ax + 13), .ref (ax + 14), .int (xs.2.2.2.1 0 3), .int (xs.2.2.2.1 0 4), .int (xs.2.2.2.1 0 5)]) := mkX_at ax g xs 7
theorem x_chk7 {f : Unit → Mo β} : (Mo.bind (chk [2] (ax + 7)) f).1 (mkX ax g xs) = (f ()).1 (mkX ax g xs) := ev_chk x_at7 (by decide)
theorem x_w0R0 {f : Nat → Mo β} {v : Nat} (e : xs.2.1 200 = some v) : (Mo.bind (gR [2] (ax + 7) 0) f).1 (mkX ax g xs) = (f v).1 (mkX ax g xs) := ev_R x_at7 (by decide) (by show some (va_rf (xs.2.1 200)) = _; rw [e]; rfl)
theorem x_w0R1 {f : Nat → Mo β} : (Mo.bind (gR [2] (ax + 7) 1) f).1 (mkX ax g xs) = (f (ax + 13)).1 (mkX ax g xs) := ev_R x_at7 (by decide) rfl
theorem x_w0R2 {f : Nat → Mo β} : (Mo.bind (gR [2] (ax + 7) 2) f).1 (mkX ax g xs) = (f (ax + 14)).1 (mkX ax g xs) := ev_R x_at7 (by decide) rfl
theorem x_w0I3 {f : Int32 → Mo β} : (Mo.bind (gI [2] (ax + 7) 3) f).1 (mkX ax g xs) = (f (xs.2.2.2.1 0 3)).1 (mkX ax g xs) := ev_I x_at7 (by decide) rfl
theorem x_w0sI3 {v : Int32} {f : Unit → Mo β} : (Mo.bind (pF [2] (ax + 7) 3 (.int v)) f).1 (mkX ax g xs) = (f ()).1 (mkX ax g (zW xs 0 3 v)) := by
  rw [ev_put x_at7 (by decide) (Nat.le_of_ble_eq_true rfl)]
  exact congrArg (f ()).1 (mkX_up (o := 7) (fun d => by simp [xCell, zW, va_up]) (fun d o' ho => by unfold xCell; split <;> first | rfl | exact absurd rfl ho))
theorem x_w0I4 {f : Int32 → Mo β} : (Mo.bind (gI [2] (ax + 7) 4) f).1 (mkX ax g xs) = (f (xs.2.2.2.1 0 4)).1 (mkX ax g xs) := ev_I x_at7 (by decide) rfl
theorem x_w0sI4 {v : Int32} {f : Unit → Mo β} : (Mo.bind (pF [2] (ax + 7) 4 (.int v)) f).1 (mkX ax g xs) = (f ()).1 (mkX ax g (zW xs 0 4 v)) := by
  rw [ev_put x_at7 (by decide) (Nat.le_of_ble_eq_true rfl)]
  exact congrArg (f ()).1 (mkX_up (o := 7) (fun d => by simp [xCell, zW, va_up]) (fun d o' ho => by unfold xCell; split <;> first | rfl | exact absurd rfl ho))
theorem x_w0I5 {f : Int32 → Mo β} : (Mo.bind (gI [2] (ax + 7) 5) f).1 (mkX ax g xs) = (f (xs.2.2.2.1 0 5)).1 (mkX ax g xs) := ev_I x_at7 (by decide) rfl
theorem x_w0sI5 {v : Int32} {f : Unit → Mo β} : (Mo.bind (pF [2] (ax + 7) 5 (.int v)) f).1 (mkX ax g xs) = (f ()).1 (mkX ax g (zW xs 0 5 v)) := by
  rw [ev_put x_at7 (by decide) (Nat.le_of_ble_eq_true rfl)]
  exact congrArg (f ()).1 (mkX_up (o := 7) (fun d => by simp [xCell, zW, va_up]) (fun d o' ho => by unfold xCell; split <;> first | rfl | exact absurd rfl ho))
theorem x_w0sR {v : Nat} {f : Unit → Mo β} : (Mo.bind (pF [2] (ax + 7) 0 (.ref v)) f).1 (mkX ax g xs) = (f ()).1 (mkX ax g (zR xs 200 (some v))) := by
  rw [ev_put x_at7 (by decide) (Nat.le_of_ble_eq_true rfl)]
  exact congrArg (f ()).1 (mkX_up (o := 7) (fun d => by simp [xCell, zR, va_up, va_rf]) (fun d o' ho => by unfold xCell; split <;> first | rfl | exact absurd rfl ho))
theorem x_at15 : (mkX ax g xs).1 (ax + 15) = .inr (2, [va_rf (xs.2.1 201), .ref (ax + 21), .ref (ax + 22), .int (xs.2.2.2.1 1 3), .int (xs.2.2.2.1 1 4), .int (xs.2.2.2.1 1 5)]) := mkX_at ax g xs 15
theorem x_chk15 {f : Unit → Mo β} : (Mo.bind (chk [2] (ax + 15)) f).1 (mkX ax g xs) = (f ()).1 (mkX ax g xs) := ev_chk x_at15 (by decide)
theorem x_w1R0 {f : Nat → Mo β} {v : Nat} (e : xs.2.1 201 = some v) : (Mo.bind (gR [2] (ax + 15) 0) f).1 (mkX ax g xs) = (f v).1 (mkX ax g xs) := ev_R x_at15 (by decide) (by show some (va_rf (xs.2.1 201)) = _; rw [e]; rfl)
theorem x_w1R1 {f : Nat → Mo β} : (Mo.bind (gR [2] (ax + 15) 1) f).1 (mkX ax g xs) = (f (ax + 21)).1 (mkX ax g xs) := ev_R x_at15 (by decide) rfl
theorem x_w1R2 {f : Nat → Mo β} : (Mo.bind (gR [2] (ax + 15) 2) f).1 (mkX ax g xs) = (f (ax + 22)).1 (mkX ax g xs) := ev_R x_at15 (by decide) rfl
theorem x_w1I3 {f : Int32 → Mo β} : (Mo.bind (gI [2] (ax + 15) 3) f).1 (mkX ax g xs) = (f (xs.2.2.2.1 1 3)).1 (mkX ax g xs) := ev_I x_at15 (by decide) rfl
theorem x_w1sI3 {v : Int32} {f : Unit → Mo β} : (Mo.bind (pF [2] (ax + 15) 3 (.int v)) f).1 (mkX ax g xs) = (f ()).1 (mkX ax g (zW xs 1 3 v)) := by
  rw [ev_put x_at15 (by decide) (Nat.le_of_ble_eq_true rfl)]
  exact congrArg (f ()).1 (mkX_up (o := 15) (fun d => by simp [xCell, zW, va_up]) (fun d o' ho => by unfold xCell; split <;> first | rfl | exact absurd rfl ho))
theorem x_w1I4 {f : Int32 → Mo β} : (Mo.bind (gI [2] (ax + 15) 4) f).1 (mkX ax g xs) = (f (xs.2.2.2.1 1 4)).1 (mkX ax g xs) := ev_I x_at15 (by decide) rfl
theorem x_w1sI4 {v : Int32} {f : Unit → Mo β} : (Mo.bind (pF [2] (ax + 15) 4 (.int v)) f).1 (mkX ax g xs) = (f ()).1 (mkX ax g (zW xs 1 4 v)) := by
  rw [ev_put x_at15 (by decide) (Nat.le_of_ble_eq_true rfl)]
  exact congrArg (f ()).1 (mkX_up (o := 15) (fun d => by simp [xCell, zW, va_up]) (fun d o' ho => by unfold xCell; split <;> first | rfl | exact absurd rfl ho))
theorem x_w1I5 {f : Int32 → Mo β} : (Mo.bind (gI [2] (ax + 15) 5) f).1 (mkX ax g xs) = (f (xs.2.2.2.1 1 5)).1 (mkX ax g xs) := ev_I x_at15 (by decide) rfl
theorem x_w1sI5 {v : Int32} {f : Unit → Mo β} : (Mo.bind (pF [2] (ax + 15) 5 (.int v)) f).1 (mkX ax g xs) = (f ()).1 (mkX ax g (zW xs 1 5 v)) := by
  rw [ev_put x_at15 (by decide) (Nat.le_of_ble_eq_true rfl)]
  exact congrArg (f ()).1 (mkX_up (o := 15) (fun d => by simp [xCell, zW, va_up]) (fun d o' ho => by unfold xCell; split <;> first | rfl | exact absurd rfl ho))
theorem x_w1sR {v : Nat} {f : Unit → Mo β} : (Mo.bind (pF [2] (ax + 15) 0 (.ref v)) f).1 (mkX ax g xs) = (f ()).1 (mkX ax g (zR xs 201 (some v))) := by
  rw [ev_put x_at15 (by decide) (Nat.le_of_ble_eq_true rfl)]
  exact congrArg (f ()).1 (mkX_up (o := 15) (fun d => by simp [xCell, zR, va_up, va_rf]) (fun d o' ho => by unfold xCell; split <;> first | rfl | exact absurd rfl ho))
end
