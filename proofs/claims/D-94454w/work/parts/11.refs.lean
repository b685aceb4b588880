set_option maxRecDepth 100000
section
variable {K : gK} {cc : ByteArray} {nL : Nat} {own nm : String} {ret : Option FieldType} {fr lo : Nat} {h : gH} {pc : Nat} {lv : List (Nat × Value)} {st : List Value} {β : Type} {r : β} {h' : gH}
theorem aldN_some {kd a : Nat} {i : Int32} {f : Option Nat → Mo β} (hd : (Mo.bind (aldN kd a i) f).1 h = some (r, h')) : ∃ n g, h.1 a = .inl (kd, n, .inr (.inr g)) ∧ vp_in i n ∧ (f (g i.toNatClampNeg)).1 h = some (r, h') := by
  obtain ⟨x, h1, e1, e2⟩ := Mo.bind_some hd
  obtain ⟨e3, rfl⟩ := Mo.rd_some e1
  revert e3
  rcases hh : h1.1 a with ⟨k, n, g | g | g⟩ | o
  · intro e3; cases e3
  · intro e3; cases e3
  · intro e3
    simp only at e3
    by_cases z : k = kd ∧ gIn i n = true
    · rw [if_pos z] at e3
      cases e3
      obtain ⟨rfl, z⟩ := z
      exact ⟨n, g, rfl, gIn_in z, e2⟩
    · rw [if_neg z] at e3; cases e3
  · intro e3; cases e3
theorem Mo.assoc {α γ : Type} {x : Mo α} {f : α → Mo γ} {g : γ → Mo β} (hd : (Mo.bind (Mo.bind x f) g).1 h = some (r, h')) : (Mo.bind x (fun a => Mo.bind (f a) g)).1 h = some (r, h') := by
  obtain ⟨y, h1, e1, e2⟩ := Mo.bind_some hd
  obtain ⟨z, h2, e3, e4⟩ := Mo.bind_some e1
  rw [Mo.bind_of e3, Mo.bind_of e4]
  exact e2
/-- a load out of an array of references; q0: its place in gTys -/
theorem v_aldN (X : gX K cc nL own nm ret fr lo) {kd a : Nat} {i : Int32} {f : Option Nat → Mo β} (hd : (Mo.bind (aldN kd a i) f).1 h = some (r, h')) (q0 : Nat) {C : String} (h0 : (gTys (kG K))[q0]? = some ((kG K).2.2.1 kd, .object C)) (hkd : kd < 90) (hdg : decode cc pc = .ok (.aaload, 1)) (kk : ∀ x : Option Nat, (f x).1 h = some (r, h') → V K nL h (pc + 1) lv (va_rf (gS (kG K) kd x) :: st)) : V K nL h pc lv (.int i :: .ref a :: st) := by
  intro ls hl H locs cells slots rp
  obtain ⟨n, g, e1, e2, e3⟩ := aldN_some hd
  obtain ⟨-, -, q⟩ := rp.1.arr e1 hkd
  exact W.aald X.hx X.hb q (gK_arr X q0 h0 n _) rfl (fun z => by cases z) (by show ¬ (i < 0 ∨ (arrV _ _ _).slots.size ≤ _); rw [arrV_size]; exact e2) (arrV_read _ _ (Nat.lt_of_not_le (fun z => e2 (Or.inr z)))) rfl rfl hdg (kk _ e3 ls hl H locs cells slots rp)
theorem v_aldR (X : gX K cc nL own nm ret fr lo) {kd a : Nat} {i : Int32} {f : Nat → Mo β} (hd : (Mo.bind (aldR kd a i) f).1 h = some (r, h')) (q0 : Nat) {C : String} (h0 : (gTys (kG K))[q0]? = some ((kG K).2.2.1 kd, .object C)) (hkd : kd < 90) (hk10 : kd ≠ 10) (hdg : decode cc pc = .ok (.aaload, 1)) (kk : ∀ x : Nat, (f x).1 h = some (r, h') → V K nL h (pc + 1) lv (.ref x :: st)) : V K nL h pc lv (.int i :: .ref a :: st) := by
  refine v_aldN X (Mo.assoc hd) q0 h0 hkd hdg (fun x e => ?_)
  cases x with
  | none => cases e
  | some y =>
    have e : (f y).1 h = some (r, h') := e
    have hs : gS (kG K) kd (some y) = some y := by unfold gS; rw [if_neg hk10]
    rw [hs]
    exact kk y e
/-- a String constant out of an array: its number -/
theorem v_aldS (X : gX K cc nL own nm ret fr lo) {a : Nat} {i : Int32} {f : Nat → Mo β} (hd : (Mo.bind (aldR 10 a i) f).1 h = some (r, h')) (hdg : decode cc pc = .ok (.aaload, 1)) (kk : ∀ x : Nat, (f x).1 h = some (r, h') → V K nL h (pc + 1) lv (.ref ((kG K).2.2.2.1 x) :: st)) : V K nL h pc lv (.int i :: .ref a :: st) := by
  refine v_aldN X (Mo.assoc hd) 10 rfl (by simp) hdg (fun x e => ?_)
  cases x with
  | none => cases e
  | some y => exact kk y e
theorem astN_some {kd a : Nat} {cs : List Nat} {i : Int32} {x : Option Nat} {f : Unit → Mo β} (hd : (Mo.bind (astN kd a cs i x) f).1 h = some (r, h')) : ∃ n g, h.1 a = .inl (kd, n, .inr (.inr g)) ∧ vp_in i n ∧ gOk cs x h = true ∧ (f ()).1 (va_up h.1 a (.inl (kd, n, .inr (.inr (va_up g i.toNatClampNeg x)))), h.2) = some (r, h') := by
  obtain ⟨y, h1, e1, e2⟩ := Mo.bind_some hd
  obtain ⟨c, e3, rfl⟩ := Mo.wr_some e1
  revert e3
  rcases hh : h.1 a with ⟨k, n, g | g | g⟩ | o
  · intro e3; cases e3
  · intro e3; cases e3
  · intro e3
    simp only at e3
    by_cases z : k = kd ∧ gIn i n = true ∧ gOk cs x h = true
    · rw [if_pos z] at e3
      cases e3
      obtain ⟨rfl, z, z2⟩ := z
      exact ⟨n, g, rfl, gIn_in z, z2, e2⟩
    · rw [if_neg z] at e3; cases e3
  · intro e3; cases e3
/-- objects of the classes cs may lie in an array of class E -/
def gCa (E : String) (cs : List Nat) : Prop := ∀ ci ∈ cs, ∃ r, gCl[ci]? = some r ∧ (r.1 = E ∨ (r.1, E) ∈ gNC)
theorem gOk_live {cs : List Nat} {y : Nat} (e : gOk cs (some y) h = true) : ∃ o, h.1 y = .inr o ∧ o.1 ∈ cs := by
  unfold gOk at e
  cases ho : h.1 y with
  | inl x => simp [ho] at e
  | inr o => simp [ho] at e; exact ⟨o, rfl, e⟩
theorem gAny_of (X : gX K cc nL own nm ret fr lo) {E : String} {cs : List Nat} (hca : gCa E cs) {H : Heap} (w : gP (kG K) h H) {y : Nat} (e : gOk cs (some y) h = true) : va_Any E (ks K) H y := by
  obtain ⟨o, e1, e2⟩ := gOk_live e
  obtain ⟨-, -, rr, g3, g4, cell, q1, q2, q3, q4⟩ := w.obj e1
  obtain ⟨r0, f1, f2⟩ := hca _ e2
  cases g3.symm.trans f1
  have hcls := (X.hW.2.1.1 o.1 _ f1).2
  obtain ⟨kC, hkC, -⟩ := hcls.2
  refine ⟨cell, q1, by rw [q3]; rfl, ⟨kC, by rw [q2]; exact hkC⟩, fun comp hc => ?_⟩
  rw [q2]
  rcases f2 with f2 | f2
  · rw [← f2] at hc
    cases hcls.1.symm.trans hc
    exact va_assign hcls
  · obtain ⟨c0, t1, x1, x2, x3⟩ := Cond.castable_spec (va_Nw.use (A := #[]) rfl (X.hW.2.2.1.2.2.1 _ f2))
    cases hcls.1.symm.trans x1
    cases hc.symm.trans x2
    exact x3
theorem v_astN (X : gX K cc nL own nm ret fr lo) {kd a : Nat} {cs : List Nat} {i : Int32} {x : Option Nat} {f : Unit → Mo β} (hd : (Mo.bind (astN kd a cs i x) f).1 h = some (r, h')) (q0 : Nat) {E : String} (h0 : (gTys (kG K))[q0]? = some ((kG K).2.2.1 kd, .object E)) (hkd : kd < 90) (hk10 : kd ≠ 10) (hca : gCa E cs) (hdg : decode cc pc = .ok (.aastore, 1)) (kk : ∀ h2 : gH, (f ()).1 h2 = some (r, h') → V K nL h2 (pc + 1) lv st) : V K nL h pc lv (va_rf x :: .int i :: .ref a :: st) := by
  intro ls hl H locs cells slots rp
  obtain ⟨n, g, e1, e2, e4, e3⟩ := astN_some hd
  obtain ⟨g1, g2, q⟩ := rp.1.arr e1 hkd
  have hS : ∀ z, gS (kG K) kd z = z := fun z => by unfold gS; rw [if_neg hk10]
  have key : ∀ H1 : Heap, H1[a]? = some ((gCell (kG K) kd n (.inr (.inr g))).setSlot i.toNatClampNeg (va_rf x)) → gAt (kG K) a (.inl (kd, n, .inr (.inr (va_up g i.toNatClampNeg x)))) H1 := by
    intro H1 x1
    show H1[a]? = some (gCell (kG K) kd n (.inr (.inr (va_up g i.toNatClampNeg x))))
    rw [x1]
    refine congrArg some ?_
    show (arrV ((kG K).2.2.1 kd) n (fun j => va_rf (gS (kG K) kd (g j)))).setSlot i.toNatClampNeg (va_rf x) = arrV ((kG K).2.2.1 kd) n (fun j => va_rf (gS (kG K) kd (va_up g i.toNatClampNeg x j)))
    rw [arrV_store]
    simp only [hS]
    rw [updV_up (g := va_rf)]
  have hin : ¬ (i < 0 ∨ (gCell (kG K) kd n (.inr (.inr g))).slots.size ≤ i.toNatClampNeg) := by rw [gCell_size]; exact e2
  cases x with
  | none =>
    exact va_WaastN (C := E) X.hx X.hb q (gK_arr X q0 h0 n _) (fun z => by cases z) hin rfl rfl hdg fun H1 x1 x2 x3 => kk _ e3 ls hl H1 _ cells slots (gRp_set rp g1 g2 (key H1 x1) x2 x3)
  | some v =>
    obtain ⟨cellV, y1, y2, ⟨kC, y3⟩, y4⟩ := gAny_of X hca rp.1 e4
    obtain ⟨kA, comp, k1, k2, k3, -⟩ := (X.hW.2.1.2 q0 _ h0).2
    obtain ⟨kE, hkE, -⟩ := Vm.findClass_spec k3
    have h0' : ¬ i < 0 := fun z => e2 (Or.inl z)
    have hlt : i.toNatClampNeg < n := Nat.not_le.mp fun z => e2 (Or.inr z)
    exact W.aast X.hx X.hb q (fun z h => by cases h) (fun z => by cases z) k1 k2 rfl hkE ⟨h0', by show _ < (gCell (kG K) kd n (.inr (.inr g))).slots.size; rw [gCell_size]; exact hlt⟩ y1 (fun z h => by rw [h] at y2; cases y2) y3 (y4 _ k3) rfl rfl hdg fun H1 x1 x2 x3 => kk _ e3 ls hl H1 _ cells slots (gRp_set rp g1 g2 (key H1 x1) x2 x3)
/-! ===== new ===== -/
theorem gRp_room (X : gX K cc nL own nm ret fr lo) {H : Heap} {locs : List Loc} {cells slots n k : Nat} {h2 : gH} (rp : gRp K h H locs cells slots) (e1 : h2.2.1 = h.2.1 + n) (e2 : h2.2.2 = h.2.2 + k) (hle : gLe h2 (kh1 K)) : cells + n ≤ (kR K).cells ∧ slots + k ≤ (kR K).slots := by
  obtain ⟨-, -, r1, r2⟩ := X.hR
  have a1 := rp.2.2.1
  have a2 := rp.2.2.2
  have b1 := hle.1
  have b2 := hle.2
  omega
/-- what 'new' at (own, index) makes -/
def gNw (own : String) (index ci N : Nat) (fs : List Value) : Prop := ∃ (C : String) (T : u_T) (ty : Nat → FieldType), gCl[ci]? = some (C, T, N) ∧ (∀ w ∈ u_ws C T N, w ∈ lw_all) ∧ (∀ k, k < N → parseFieldDescriptor (T k).2.2.1 = some (ty k)) ∧ Cond.classLink own index C ∈ lw_all ∧ Cond.instantiable C N ∈ lw_all ∧ Cond.initialized C ∈ lw_all ∧ (∀ j, j < N → defaultValue (ty j) = vp_V fs j) ∧ fs.length = N
theorem v_new (X : gX K cc nL own nm ret fr lo) {index ci N : Nat} {fs : List Value} {f : Nat → Mo β} (hd : (Mo.bind (nw ci N fs) f).1 h = some (r, h')) (hle : gLe h' (kh1 K)) (hw : gNw own index ci N fs) (hdg : decode cc pc = .ok (.new index, 3)) (kk : ∀ (q : Nat) (h2 : gH), (f q).1 h2 = some (r, h') → V K nL h2 (pc + 3) lv (.ref q :: st)) : V K nL h pc lv st := by
  intro ls hl H locs cells slots rp
  obtain ⟨q, h1, e1, e2⟩ := Mo.bind_some hd
  cases e1
  obtain ⟨C, T, ty, f1, f2, f3, f4, f5, f6, f7, f8⟩ := hw
  have hKn := X.hW.2.1.1 ci _ f1
  have hl2 := ((f _).2 _ _ _ e2).tr hle
  obtain ⟨m1, m2⟩ := gRp_room X (n := 1) (k := N) rp rfl rfl hl2
  refine W.newcK X.hx X.hb X.hown (X.hts _ f4) (X.hts _ f5) (X.hts _ f6) rfl hdg m1 m2 hKn.2.1 rp.1.1 fun H1 kC hkC x1 x2 x3 => ?_
  refine kk _ _ e2 ls hl H1 locs (cells + 1) (slots + N) ⟨rp.1.push ⟨_, f1, f8, (u_born ty X.hts f2 hKn hkC x1 f3).to f7⟩ x2 x3, ⟨?_, fun q q1 q2 => ?_, rp.2.1.2.2⟩, ?_, ?_⟩
  · have := rp.2.1.1; have := rp.1.1; omega
  · have := rp.2.1.1; have := rp.1.1
    rw [x3 q (by omega)]
    exact rp.2.1.2.1 q q1 q2
  · have := rp.2.2.1; show cells + 1 + _ = h.2.1 + 1; omega
  · have := rp.2.2.2; show slots + N + _ = h.2.2 + N; omega
end
