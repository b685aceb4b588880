set_option maxRecDepth 100000
def nw (ci N : Nat) (fs : List Value) : Mo Nat := ⟨fun h => some (h.2.1, (va_up h.1 h.2.1 (.inr (ci, fs)), h.2.1 + 1, h.2.2 + N)), fun h r h' e => by cases e; exact ⟨Nat.le_succ _, Nat.le_add_right _ _⟩⟩
def nwI (kd : Nat) (n : Int32) : Mo Nat := ⟨fun h => if n < 0 ∨ 100000 < n.toNatClampNeg then none else some (h.2.1, (va_up h.1 h.2.1 (.inl (kd, n.toNatClampNeg, .inl (fun _ => 0))), h.2.1 + 1, h.2.2 + n.toNatClampNeg)), fun h r h' e => by
  dsimp only at e
  split at e
  · cases e
  · cases e; exact ⟨Nat.le_succ _, Nat.le_add_right _ _⟩⟩
def nwL (n : Int32) : Mo Nat := ⟨fun h => if n < 0 ∨ 100000 < n.toNatClampNeg then none else some (h.2.1, (va_up h.1 h.2.1 (.inl (1, n.toNatClampNeg, .inr (.inl (fun _ => 0)))), h.2.1 + 1, h.2.2 + n.toNatClampNeg)), fun h r h' e => by
  dsimp only at e
  split at e
  · cases e
  · cases e; exact ⟨Nat.le_succ _, Nat.le_add_right _ _⟩⟩
def nwR (kd : Nat) (n : Int32) : Mo Nat := ⟨fun h => if n < 0 ∨ 100000 < n.toNatClampNeg then none else some (h.2.1, (va_up h.1 h.2.1 (.inl (kd, n.toNatClampNeg, .inr (.inr (fun _ => none)))), h.2.1 + 1, h.2.2 + n.toNatClampNeg)), fun h r h' e => by
  dsimp only at e
  split at e
  · cases e
  · cases e; exact ⟨Nat.le_succ _, Nat.le_add_right _ _⟩⟩
/-- the receiver is an object of one of the classes cs -/
def chk (cs : List Nat) (a : Nat) : Mo Unit := Mo.rd fun h => if gOk cs (some a) h = true then some () else none
section
variable {K : gK} {cc : ByteArray} {nL : Nat} {own nm : String} {ret : Option FieldType} {fr lo : Nat} {h : gH} {pc : Nat} {lv : List (Nat × Value)} {st : List Value} {β : Type} {r : β} {h' : gH}
theorem updV_up {α : Type} {g : α → Value} {f : Nat → α} {k : Nat} {x : α} : updV (fun j => g (f j)) k (g x) = fun j => g (va_up f k x j) := by
  funext q
  by_cases hq : q = k
  · subst hq; simp [updV, va_up]
  · simp [updV, va_up, hq]
theorem astI_some {kd a : Nat} {i x : Int32} {f : Unit → Mo β} (hd : (Mo.bind (astI kd a i x) f).1 h = some (r, h')) : ∃ n g, h.1 a = .inl (kd, n, .inl g) ∧ vp_in i n ∧ (f ()).1 (va_up h.1 a (.inl (kd, n, .inl (va_up g i.toNatClampNeg x))), h.2) = some (r, h') := by
  obtain ⟨y, h1, e1, e2⟩ := Mo.bind_some hd
  obtain ⟨c, e3, rfl⟩ := Mo.wr_some e1
  revert e3
  rcases hh : h.1 a with ⟨k, n, g | g | g⟩ | o
  · intro e3
    simp only at e3
    by_cases z : k = kd ∧ gIn i n = true
    · rw [if_pos z] at e3
      cases e3
      obtain ⟨rfl, z⟩ := z
      exact ⟨n, g, rfl, gIn_in z, e2⟩
    · rw [if_neg z] at e3; cases e3
  · intro e3; cases e3
  · intro e3; cases e3
  · intro e3; cases e3
theorem gRp_set {a k : Nat} {e : gA} {H H1 : Heap} {locs : List Loc} {cells slots : Nat} (rp : gRp K h H locs cells slots) (g1 : (kG K).1 ≤ a) (g2 : a < h.2.1) (ha : gAt (kG K) a e H1) (hz : H1.size = H.size) (oq : ∀ q : Nat, q ≠ a → H1[q]? = H[q]?) : gRp K (va_up h.1 a e, h.2) H1 (locs ++ [⟨a, k⟩]) cells slots :=
  ⟨rp.1.set g1 g2 ha hz oq, rp.2.1.put hz oq g1, rp.2.2.1, rp.2.2.2⟩
theorem v_iast (X : gX K cc nL own nm ret fr lo) {a : Nat} {i x : Int32} {f : Unit → Mo β} (hd : (Mo.bind (astI 0 a i x) f).1 h = some (r, h')) (hdg : decode cc pc = .ok (.iastore, 1)) (kk : ∀ h2 : gH, (f ()).1 h2 = some (r, h') → V K nL h2 (pc + 1) lv st) : V K nL h pc lv (.int x :: .int i :: .ref a :: st) := by
  intro ls hl H locs cells slots rp
  obtain ⟨n, g, e1, e2, e3⟩ := astI_some hd
  obtain ⟨g1, g2, q⟩ := rp.1.arr e1 (by simp)
  refine W.iast X.hx X.hb q (gK_arr X 0 rfl n _) (fun z => by cases z) (by show ¬ (i < 0 ∨ (arrV _ _ _).slots.size ≤ _); rw [arrV_size]; exact e2) rfl rfl hdg fun H1 x1 x2 x3 => kk _ e3 ls hl H1 _ cells slots (gRp_set rp g1 g2 ?_ x2 x3)
  show H1[a]? = some (gCell (kG K) 0 n (.inl (va_up g i.toNatClampNeg x)))
  rw [x1]
  refine congrArg some ?_
  show (arrV ((kG K).2.2.1 0) n (fun j => .int (g j))).setSlot i.toNatClampNeg (.int x) = arrV ((kG K).2.2.1 0) n (fun j => .int (va_up g i.toNatClampNeg x j))
  rw [arrV_store, updV_up (g := Value.int)]
theorem v_bast (X : gX K cc nL own nm ret fr lo) {a : Nat} {i x : Int32} {f : Unit → Mo β} (hd : (Mo.bind (astI 2 a i x) f).1 h = some (r, h')) (hn : narrow .byte (.int x) = .int x) (hdg : decode cc pc = .ok (.bastore, 1)) (kk : ∀ h2 : gH, (f ()).1 h2 = some (r, h') → V K nL h2 (pc + 1) lv st) : V K nL h pc lv (.int x :: .int i :: .ref a :: st) := by
  intro ls hl H locs cells slots rp
  obtain ⟨n, g, e1, e2, e3⟩ := astI_some hd
  obtain ⟨g1, g2, q⟩ := rp.1.arr e1 (by simp)
  refine W.bast X.hx X.hb q (gK_arr X 2 rfl n _) (fun z => by cases z) (by show ¬ (i < 0 ∨ (arrV _ _ _).slots.size ≤ _); rw [arrV_size]; exact e2) rfl rfl hdg fun H1 x1 x2 x3 => kk _ e3 ls hl H1 _ cells slots (gRp_set rp g1 g2 ?_ x2 x3)
  show H1[a]? = some (gCell (kG K) 2 n (.inl (va_up g i.toNatClampNeg x)))
  rw [x1, hn]
  refine congrArg some ?_
  show (arrV ((kG K).2.2.1 2) n (fun j => .int (g j))).setSlot i.toNatClampNeg (.int x) = arrV ((kG K).2.2.1 2) n (fun j => .int (va_up g i.toNatClampNeg x j))
  rw [arrV_store, updV_up (g := Value.int)]
theorem v_zast (X : gX K cc nL own nm ret fr lo) {a : Nat} {i x : Int32} {f : Unit → Mo β} (hd : (Mo.bind (astI 3 a i x) f).1 h = some (r, h')) (hn : narrow .boolean (.int x) = .int x) (hdg : decode cc pc = .ok (.bastore, 1)) (kk : ∀ h2 : gH, (f ()).1 h2 = some (r, h') → V K nL h2 (pc + 1) lv st) : V K nL h pc lv (.int x :: .int i :: .ref a :: st) := by
  intro ls hl H locs cells slots rp
  obtain ⟨n, g, e1, e2, e3⟩ := astI_some hd
  obtain ⟨g1, g2, q⟩ := rp.1.arr e1 (by simp)
  refine W.zast X.hx X.hb q (gK_arr X 3 rfl n _) (fun z => by cases z) (by show ¬ (i < 0 ∨ (arrV _ _ _).slots.size ≤ _); rw [arrV_size]; exact e2) rfl rfl hdg fun H1 x1 x2 x3 => kk _ e3 ls hl H1 _ cells slots (gRp_set rp g1 g2 ?_ x2 x3)
  show H1[a]? = some (gCell (kG K) 3 n (.inl (va_up g i.toNatClampNeg x)))
  rw [x1, hn]
  refine congrArg some ?_
  show (arrV ((kG K).2.2.1 3) n (fun j => .int (g j))).setSlot i.toNatClampNeg (.int x) = arrV ((kG K).2.2.1 3) n (fun j => .int (va_up g i.toNatClampNeg x j))
  rw [arrV_store, updV_up (g := Value.int)]
theorem astL_some {a : Nat} {i : Int32} {x : Int64} {f : Unit → Mo β} (hd : (Mo.bind (astL a i x) f).1 h = some (r, h')) : ∃ n g, h.1 a = .inl (1, n, .inr (.inl g)) ∧ vp_in i n ∧ (f ()).1 (va_up h.1 a (.inl (1, n, .inr (.inl (va_up g i.toNatClampNeg x)))), h.2) = some (r, h') := by
  obtain ⟨y, h1, e1, e2⟩ := Mo.bind_some hd
  obtain ⟨c, e3, rfl⟩ := Mo.wr_some e1
  revert e3
  rcases hh : h.1 a with ⟨k, n, g | g | g⟩ | o
  · intro e3; cases e3
  · intro e3
    simp only at e3
    by_cases z : k = 1 ∧ gIn i n = true
    · rw [if_pos z] at e3
      cases e3
      obtain ⟨rfl, z⟩ := z
      exact ⟨n, g, rfl, gIn_in z, e2⟩
    · rw [if_neg z] at e3; cases e3
  · intro e3; cases e3
  · intro e3; cases e3
theorem v_last (X : gX K cc nL own nm ret fr lo) {a : Nat} {i : Int32} {x : Int64} {f : Unit → Mo β} (hd : (Mo.bind (astL a i x) f).1 h = some (r, h')) (hdg : decode cc pc = .ok (.lastore, 1)) (kk : ∀ h2 : gH, (f ()).1 h2 = some (r, h') → V K nL h2 (pc + 1) lv st) : V K nL h pc lv (.long x :: .int i :: .ref a :: st) := by
  intro ls hl H locs cells slots rp
  obtain ⟨n, g, e1, e2, e3⟩ := astL_some hd
  obtain ⟨g1, g2, q⟩ := rp.1.arr e1 (by simp)
  refine W.last X.hx X.hb q (gK_arr X 1 rfl n _) (fun z => by cases z) (by show ¬ (i < 0 ∨ (arrV _ _ _).slots.size ≤ _); rw [arrV_size]; exact e2) rfl rfl hdg fun H1 x1 x2 x3 => kk _ e3 ls hl H1 _ cells slots (gRp_set rp g1 g2 ?_ x2 x3)
  show H1[a]? = some (gCell (kG K) 1 n (.inr (.inl (va_up g i.toNatClampNeg x))))
  rw [x1]
  refine congrArg some ?_
  show (arrV ((kG K).2.2.1 1) n (fun j => .long (g j))).setSlot i.toNatClampNeg (.long x) = arrV ((kG K).2.2.1 1) n (fun j => .long (va_up g i.toNatClampNeg x j))
  rw [arrV_store, updV_up (g := Value.long)]
theorem alen_some {kds : List Nat} {a : Nat} {f : Int32 → Mo β} (hd : (Mo.bind (alen kds a) f).1 h = some (r, h')) : ∃ k n c, h.1 a = .inl (k, n, c) ∧ k ∈ kds ∧ (f (nI n)).1 h = some (r, h') := by
  obtain ⟨x, h1, e1, e2⟩ := Mo.bind_some hd
  obtain ⟨e3, rfl⟩ := Mo.rd_some e1
  revert e3
  rcases hh : h1.1 a with ⟨k, n, g⟩ | o
  · intro e3
    simp only at e3
    by_cases z : k ∈ kds
    · rw [if_pos z] at e3
      cases e3
      exact ⟨k, n, g, rfl, z, e2⟩
    · rw [if_neg z] at e3; cases e3
  · intro e3; cases e3
theorem gCell_size (G : gG) (k n : Nat) (c : (Nat → Int32) ⊕ (Nat → Int64) ⊕ (Nat → Option Nat)) : (gCell G k n c).slots.size = n := by
  rcases c with f | f | f <;> exact arrV_size _ _ _
theorem v_alen (X : gX K cc nL own nm ret fr lo) {kd a : Nat} {f : Int32 → Mo β} (hd : (Mo.bind (alen [kd] a) f).1 h = some (r, h')) (q0 : Nat) {ty : FieldType} (h0 : (gTys (kG K))[q0]? = some ((kG K).2.2.1 kd, ty)) (hkd : kd < 90) (hdg : decode cc pc = .ok (.arraylength, 1)) (kk : ∀ x : Int32, (f x).1 h = some (r, h') → V K nL h (pc + 1) lv (.int x :: st)) : V K nL h pc lv (.ref a :: st) := by
  intro ls hl H locs cells slots rp
  obtain ⟨k, n, c, e1, e2, e3⟩ := alen_some hd
  have hk : k = kd := by simpa using e2
  subst hk
  obtain ⟨g1, g2, q⟩ := rp.1.arr e1 hkd
  refine W.alen (ty := ty) X.hx X.hb q ?_ (by rw [gCell_size]; rfl) rfl rfl hdg (kk _ e3 ls hl H locs cells slots rp)
  rcases c with c | c | c <;> exact gK_arr X q0 h0 n _
end
