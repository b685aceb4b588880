set_option maxRecDepth 100000
/-! ===== the abstract young heap ===== -/
/-- a cell: an array (its kind, its length, what it holds) or an object (its class's number, its fields) -/
abbrev gA : Type := (Nat × Nat × ((Nat → Int32) ⊕ (Nat → Int64) ⊕ (Nat → Option Nat))) ⊕ (Nat × List Value)
/-- cells by address, the next address, slots made so far -/
abbrev gH : Type := (Nat → gA) × Nat × Nat
/-- first young address; classes; array classes by kind; the String constants' cells and their bytes; STEP_X, STEP_Y -/
abbrev gG : Type := Nat × va_G × (Nat → ClassId) × (Nat → Nat) × (Nat → Nat) × Nat × Nat
def gTys (G : gG) : List (ClassId × FieldType) := [(G.2.2.1 0, .int), (G.2.2.1 1, .long), (G.2.2.1 2, .byte), (G.2.2.1 3, .boolean), (G.2.2.1 4, .object "BitingDoors$Cells"), (G.2.2.1 5, .object "BitingDoors$Door"), (G.2.2.1 6, .object "BitingDoors$Act"), (G.2.2.1 7, .object "BitingDoors$Walker"), (G.2.2.1 8, .object "BitingDoors$Day"), (G.2.2.1 9, .object "BitingDoors$Cond"), (G.2.2.1 10, .object "java/lang/String")]
def gS (G : gG) (k : Nat) (r : Option Nat) : Option Nat := if k = 10 then r.map G.2.2.2.1 else r
def gCell (G : gG) (k n : Nat) : ((Nat → Int32) ⊕ (Nat → Int64) ⊕ (Nat → Option Nat)) → Cell
  | .inl f => arrV (G.2.2.1 k) n (fun j => .int (f j))
  | .inr (.inl f) => arrV (G.2.2.1 k) n (fun j => .long (f j))
  | .inr (.inr f) => arrV (G.2.2.1 k) n (fun j => va_rf (gS G k (f j)))
def gAt (G : gG) (a : Nat) (e : gA) (H : Heap) : Prop := match e with
  | .inl x => H[a]? = some (gCell G x.1 x.2.1 x.2.2)
  | .inr o => ∃ r : vw_C, gCl[o.1]? = some r ∧ o.2.length = r.2.2 ∧ t_OB a (G.2.1.1 o.1) r.2.2 (G.2.1.2 o.1) H (vp_V o.2)
theorem gAt.kept {G : gG} {a : Nat} {e : gA} {H H1 : Heap} (h : gAt G a e H) (hq : H1[a]? = H[a]?) : gAt G a e H1 := by
  cases e with
  | inl x => exact hq.trans h
  | inr o =>
    obtain ⟨r, h1, h2, h3⟩ := h
    exact ⟨r, h1, h2, h3.kept hq⟩
/-- the young cells are as the abstract heap says -/
def gDead : gA := .inl (99, 0, .inl (fun _ => 0))
/-- an exception of which only the class is known -/
def gNse : gA := .inl (98, 0, .inl (fun _ => 0))
def gAtN (G : gG) (a : Nat) (e : gA) (H : Heap) : Prop := gAt G a e H ∨ (e = gNse ∧ ∃ cell : Cell, H[a]? = some cell ∧ cell.vm.isStatics = false ∧ cell.cls = G.2.1.1 21)
theorem gAtN.kept {G : gG} {a : Nat} {e : gA} {H H1 : Heap} (h : gAtN G a e H) (hq : H1[a]? = H[a]?) : gAtN G a e H1 := by
  rcases h with h | ⟨h, cell, h1, h2⟩
  · exact Or.inl (h.kept hq)
  · exact Or.inr ⟨h, cell, hq.trans h1, h2⟩
def gP (G : gG) (h : gH) (H : Heap) : Prop := H.size = h.2.1 ∧ G.1 ≤ h.2.1 ∧ (∀ a : Nat, G.1 ≤ a → a < h.2.1 → gAtN G a (h.1 a) H) ∧ ∀ a : Nat, ¬ (G.1 ≤ a ∧ a < h.2.1) → h.1 a = gDead
theorem gP.live {G : gG} {h : gH} {H : Heap} (w : gP G h H) {a : Nat} (n : h.1 a ≠ gDead) (n2 : h.1 a ≠ gNse) : G.1 ≤ a ∧ a < h.2.1 ∧ gAt G a (h.1 a) H := by
  by_cases x : G.1 ≤ a ∧ a < h.2.1
  · exact ⟨x.1, x.2, (w.2.2.1 a x.1 x.2).resolve_right (fun z => n2 z.1)⟩
  · exact absurd (w.2.2.2 a x) n
abbrev gY (G : gG) : Nat → Prop := fun q => G.1 ≤ q
/-- what is old and is read: tables' words, the two static arrays, the Strings -/
def gN (U : State) : Prop := (∀ q ∈ gNF, va_Nw (.fieldLinkNest q.1 q.2.1 q.2.2.1 q.2.2.2.1 q.2.2.2.2.1 q.2.2.2.2.2) U) ∧ (∀ q ∈ gNM, va_Nw (.methodLinkNest q.1 q.2.1 q.2.2.1 q.2.2.2) U) ∧ (∀ q ∈ gNC, va_Nw (.castable q.1 q.2) U) ∧ (∀ q ∈ gND, va_Nw (.declares q) U) ∧ (∀ q ∈ gNO, va_AO q U) ∧ ∀ q ∈ gNS, va_Nw (.selects q.1 q.2 q.2) U
def gStepX : Nat → Value := fun j => .int (([0, 1, 0, -1] : List Int32).getD j 0)
def gStepY : Nat → Value := fun j => .int (([-1, 0, 1, 0] : List Int32).getD j 0)
/-- a static of Throwable that holds a reference or null, as it is laid -/
def gZs (n d : String) (A : Nat → Prop) (U : State) (H : Heap) : Prop := ∃ (c : ClassId) (k : Class) (i : Nat) (f : Field) (a : Nat) (cell : Cell) (v : Value), U.vm.findClass "java/lang/Throwable" = some c ∧ U.fieldFound? "java/lang/Throwable" n d = some (c, k, i, f) ∧ f.isStatic = true ∧ k.statics = some a ∧ H[a]? = some cell ∧ cell.vm.isStatics = true ∧ cell.cls = c ∧ f.slot < cell.slots.size ∧ k.staticTypes[f.slot]? = some f.type ∧ cell.slots[f.slot]? = some v ∧ v.isRef = true ∧ ¬ A a
theorem gZs.moved {n d : String} {A : Nat → Prop} {u U : State} {H : Heap} (hvm : u.vm.Alike U.vm) (h : gZs n d A u H) : gZs n d A U H := by
  obtain ⟨c, k, i, f, a, cell, v, hc, hi, hst, ha, hcell, hs, hcls, hlt, hty, hr⟩ := h
  obtain ⟨k', hi', hek⟩ := State.fieldFound?_setVm hvm hi
  exact ⟨c, k', i, f, a, cell, v, by rw [hvm.findClass]; exact hc, hi', hst, by rw [hek]; exact ha, hcell, hs, hcls, hlt, by rw [hek]; exact hty, hr⟩
theorem gZs.kept {n d : String} {A : Nat → Prop} {U : State} {H H1 : Heap} (h : gZs n d A U H) (hq : ∀ a : Nat, a < H.size → ¬ A a → H1[a]? = H[a]?) : gZs n d A U H1 := by
  obtain ⟨c, k, i, f, a, cell, v, hc, hi, hst, ha, hcell, hs, hcls, hlt, hty, hv, hr, hA⟩ := h
  exact ⟨c, k, i, f, a, cell, v, hc, hi, hst, ha, by rw [hq a (Array.getElem?_eq_some_iff.mp hcell).1 hA]; exact hcell, hs, hcls, hlt, hty, hv, hr, hA⟩
theorem gZs.lays {n d : String} {A : Nat → Prop} {U : State} {args : Array Value} (h : gZs n d A U U.heap) : (Cond.laysStatic "java/lang/Throwable" n d).before args U = true := by
  obtain ⟨c, k, i, f, a, cell, v, hc, hi, hst, ha, hcell, hs, hcls, hlt, hty, hv, hr, hA⟩ := h
  exact Cond.laysStatic_of hc hi hst ha hcell hs hcls hlt hty
theorem gZs.isRef {n d : String} {A : Nat → Prop} {U : State} {args : Array Value} (h : gZs n d A U U.heap) : (Cond.isRef (.static "java/lang/Throwable" n d)).before args U = true := by
  obtain ⟨c, k, i, f, a, cell, v, hc, hi, hst, ha, hcell, hs, hcls, hlt, hty, hv, hr, hA⟩ := h
  have hu : (cell.vm == VmData.unknown) = false := by
    cases hvm : cell.vm <;> simp_all [VmData.isStatics]
  have ev : (Term.static "java/lang/Throwable" n d).eval args U none [] U = some v := by
    simp [Term.eval, State.fieldNamed?, hi, hst, ha, hcell, hs, hv]
  simp only [Cond.before, Cond.holds, Cond.value, ev]
  cases v <;> simp_all [Value.isRef]
def gOd (G : gG) (U : State) (H : Heap) : Prop :=
  (va_Z "BitingDoors" "STEP_X" "[I" (.ref G.2.2.2.2.2.1) (gY G) U H ∧ va_T .int G.2.2.2.2.2.1 4 gStepX (gY G) U H) ∧
  (va_Z "BitingDoors" "STEP_Y" "[I" (.ref G.2.2.2.2.2.2) (gY G) U H ∧ va_T .int G.2.2.2.2.2.2 4 gStepY (gY G) U H) ∧
  (∀ i : Nat, i < 43 → va_O "java/lang/String" (G.2.2.2.1 i) (gY G) U H ∧ va_OF "java/lang/String" "coder" "B" (.int 0) (G.2.2.2.1 i) (gY G) U H ∧ va_OF "java/lang/String" "value" "[B" (.ref (G.2.2.2.2.1 i)) (G.2.2.2.1 i) (gY G) U H ∧ va_T .byte (G.2.2.2.2.1 i) (gSC.getD i []).length (fun j => .int ((gSC.getD i []).getD j 0)) (gY G) U H) ∧
  (∀ i : Nat, i < 43 → vk_R (gSR.getD i ("", 0, "")).1 (gSR.getD i ("", 0, "")).2.1 (gSR.getD i ("", 0, "")).2.2 (G.2.2.2.1 i) U) ∧
  (va_Z "java/lang/String" "COMPACT_STRINGS" "Z" (.int 1) (gY G) U H) ∧
  va_Zq "java/lang/Throwable" "UNASSIGNED_STACK" "[Ljava/lang/StackTraceElement;" (gY G) U H ∧ va_Zq "java/lang/Throwable" "SUPPRESSED_SENTINEL" "Ljava/util/List;" (gY G) U H ∧ va_Zq "jdk/internal/util/Preconditions" "SIOOBE_FORMATTER" "Ljava/util/function/BiFunction;" (gY G) U H ∧ G.2.2.1 98 = G.2.1.1 21 ∧ gZs "UNASSIGNED_STACK" "[Ljava/lang/StackTraceElement;" (gY G) U H ∧ gZs "SUPPRESSED_SENTINEL" "Ljava/util/List;" (gY G) U H
/-- the whole world of a state -/
def gW (G : gG) (h : gH) (U : State) : Prop := gP G h U.heap ∧ va_K G.2.1 gCl (gTys G) U ∧ gN U ∧ gOd G U U.heap
theorem gN.warm {s U : State} (hW : s.WarmedH U.vm) (h : gN s) : gN U :=
  ⟨fun q hq => va_Nw.warmF hW (h.1 q hq), fun q hq => va_Nw.warmM hW (h.2.1 q hq), fun q hq => va_Nw.warmC hW (h.2.2.1 q hq), fun q hq => va_Nw.warmD hW (h.2.2.2.1 q hq), fun q hq => va_AO.moved hW.alike (h.2.2.2.2.1 q hq), fun q hq => word_at hW (Or.inl rfl) (h.2.2.2.2.2 q hq)⟩
theorem gN.same {s U : State} (hv : U.vm = s.vm) (h : gN s) : gN U :=
  ⟨fun q hq => va_Nw.same rfl hv.symm (h.1 q hq), fun q hq => va_Nw.same rfl hv.symm (h.2.1 q hq), fun q hq => va_Nw.same rfl hv.symm (h.2.2.1 q hq), fun q hq => va_Nw.same rfl hv.symm (h.2.2.2.1 q hq), fun q hq => va_AO.moved (by rw [hv]; exact Vm.Alike.refl _) (h.2.2.2.2.1 q hq), fun q hq => va_Nw.same rfl hv.symm (h.2.2.2.2.2 q hq)⟩
theorem gOd.kept {G : gG} {U : State} {H H1 : Heap} (h : gOd G U H) (hq : ∀ a : Nat, a < H.size → ¬ gY G a → H1[a]? = H[a]?) : gOd G U H1 := by
  obtain ⟨⟨a1, a2⟩, ⟨b1, b2⟩, c, d, e, f1, f2, f3, f4, f5, f6⟩ := h
  exact ⟨⟨a1.kept hq, a2.kept hq⟩, ⟨b1.kept hq, b2.kept hq⟩, fun i hi => ⟨(c i hi).1.kept hq, (c i hi).2.1.kept hq, (c i hi).2.2.1.kept hq, (c i hi).2.2.2.kept hq⟩, d, e.kept hq, f1.kept hq, f2.kept hq, f3.kept hq, f4, f5.kept hq, f6.kept hq⟩
theorem gOd.warm {G : gG} {s U : State} {H : Heap} (hW : s.WarmedH U.vm) (h : gOd G s H) : gOd G U H := by
  obtain ⟨⟨a1, a2⟩, ⟨b1, b2⟩, c, d, e, f1, f2, f3, f4, f5, f6⟩ := h
  have hv := hW.alike
  exact ⟨⟨a1.moved hv, a2.moved hv⟩, ⟨b1.moved hv, b2.moved hv⟩, fun i hi => ⟨va_O.moved hv (c i hi).1, va_OF.moved hv (c i hi).2.1, va_OF.moved hv (c i hi).2.2.1, va_T.moved hv (c i hi).2.2.2⟩, fun i hi => vk_R.warm hW (d i hi), e.moved hv, f1.moved hv, f2.moved hv, f3.moved hv, f4, f5.moved hv, f6.moved hv⟩
theorem gOd.same {G : gG} {s U : State} {H : Heap} (hv0 : U.vm = s.vm) (h : gOd G s H) : gOd G U H := by
  obtain ⟨⟨a1, a2⟩, ⟨b1, b2⟩, c, d, e, f1, f2, f3, f4, f5, f6⟩ := h
  have hv : s.vm.Alike U.vm := by rw [hv0]; exact Vm.Alike.refl _
  exact ⟨⟨a1.moved hv, a2.moved hv⟩, ⟨b1.moved hv, b2.moved hv⟩, fun i hi => ⟨va_O.moved hv (c i hi).1, va_OF.moved hv (c i hi).2.1, va_OF.moved hv (c i hi).2.2.1, va_T.moved hv (c i hi).2.2.2⟩, fun i hi => vk_R.same hv0 (d i hi), e.moved hv, f1.moved hv, f2.moved hv, f3.moved hv, f4, f5.moved hv, f6.moved hv⟩
theorem gW.same {G : gG} {h : gH} {s U : State} (hh : U.heap = s.heap) (hv : U.vm = s.vm) (w : gW G h s) : gW G h U :=
  ⟨by rw [hh]; exact w.1, va_K.moved (by rw [hv]; exact Vm.Alike.refl _) w.2.1, gN.same hv w.2.2.1, by rw [hh]; exact gOd.same hv w.2.2.2⟩
theorem gW_blind {G : gG} {h : gH} {av : List Value} : FrameBlind (va_Pc av (gW G h)) := by
  intro a U g mk hp
  exact ⟨hp.1, gW.same (by simp [State.calling, State.pushFrame, State.setFrames, State.setTop, State.modifyTopJava]) (by simp [State.calling, State.pushFrame, State.setFrames, State.setTop, State.modifyTopJava]) hp.2⟩
