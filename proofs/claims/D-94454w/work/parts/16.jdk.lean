set_option maxRecDepth 100000
/-- System.arraycopy of ints -/
def cpyI (a0 : Nat) (sp : Int32) (a : Nat) (dp n : Int32) : Mo Unit := Mo.wr fun h => match h.1 a0, h.1 a with
  | .inl (k0, n0, .inl f), .inl (k, n1, .inl g) => if k0 = 0 ∧ k = 0 ∧ ¬ sp < 0 ∧ ¬ dp < 0 ∧ ¬ n < 0 ∧ sp.toNatClampNeg + n.toNatClampNeg ≤ n0 ∧ dp.toNatClampNeg + n.toNatClampNeg ≤ n1 then some (va_up h.1 a (.inl (k, n1, .inl (va_cpy f g sp.toNatClampNeg dp.toNatClampNeg n.toNatClampNeg)))) else none
  | _, _ => none
def Mo.opt {β : Type} (x : Option Nat) (A : Mo β) (B : Nat → Mo β) : Mo β := match x with
  | none => A
  | some y => B y
section
variable {K : gK} {cc : ByteArray} {nL : Nat} {own nm : String} {ret : Option FieldType} {fr lo : Nat} {h : gH} {pc : Nat} {lv : List (Nat × Value)} {st : List Value} {β : Type} {r : β} {h' : gH}
theorem gRp_le (X : gX K cc nL own nm ret fr lo) {F : Mo β} (hd : F.1 h = some (r, h')) (hle : gLe h' (kh1 K)) {H : Heap} {locs : List Loc} {cells slots : Nat} (rp : gRp K h H locs cells slots) : cells ≤ (kR K).cells ∧ slots ≤ (kR K).slots :=
  gRp_room X (n := 0) (k := 0) rp rfl rfl ((Mo.le hd).tr hle)
theorem v_mmax (X : gX K cc nL own nm ret fr lo) {F : Mo β} (hd : F.1 h = some (r, h')) (hle : gLe h' (kh1 K)) {index : Nat} {c0 : ByteArray} (h1 : Cond.methodLink own index ⟨"java/lang/Math", "max", "(II)I"⟩ ∈ lw_all) (h2 : Cond.static ⟨"java/lang/Math", "max", "(II)I"⟩ ∈ lw_all) (h3 : Cond.initialized "java/lang/Math" ∈ lw_all) (h4 : Cond.code ⟨"java/lang/Math", "max", "(II)I"⟩ c0 2 (some .int) ∈ lw_all) (hc0 : c0 = Lib.Math.max.code) (hst : (st.map fun v => v.category).sum ≤ 8) (hfr : 1 ≤ fr) (hlo : 21 ≤ lo) {x y : Int32} (hdg : decode cc pc = .ok (.invokestatic index, 3)) (k : V K nL h (pc + 3) lv (.int (if x < y then y else x) :: st)) : V K nL h pc lv (.int y :: .int x :: st) := by
  subst hc0
  intro ls hl H locs cells slots rp
  obtain ⟨m1, m2⟩ := gRp_le X hd hle rp
  exact va_mmax X.hx X.hb (by rw [X.hml]; exact hl.1.symm) X.hown (X.hts _ h1) (X.hts _ h2) (X.hts _ h3) (X.hts _ h4) (by rw [X.hR.1]; exact hfr) (by rw [X.hR.2.1]; omega) m1 m2 hdg (k ls hl H locs cells slots rp)
theorem v_mmin (X : gX K cc nL own nm ret fr lo) {F : Mo β} (hd : F.1 h = some (r, h')) (hle : gLe h' (kh1 K)) {index : Nat} {c0 : ByteArray} (h1 : Cond.methodLink own index ⟨"java/lang/Math", "min", "(II)I"⟩ ∈ lw_all) (h2 : Cond.static ⟨"java/lang/Math", "min", "(II)I"⟩ ∈ lw_all) (h3 : Cond.initialized "java/lang/Math" ∈ lw_all) (h4 : Cond.code ⟨"java/lang/Math", "min", "(II)I"⟩ c0 2 (some .int) ∈ lw_all) (hc0 : c0 = Lib.Math.min.code) (hst : (st.map fun v => v.category).sum ≤ 8) (hfr : 1 ≤ fr) (hlo : 21 ≤ lo) {x y : Int32} (hdg : decode cc pc = .ok (.invokestatic index, 3)) (k : V K nL h (pc + 3) lv (.int (if y < x then y else x) :: st)) : V K nL h pc lv (.int y :: .int x :: st) := by
  subst hc0
  intro ls hl H locs cells slots rp
  obtain ⟨m1, m2⟩ := gRp_le X hd hle rp
  exact va_mmin X.hx X.hb (by rw [X.hml]; exact hl.1.symm) X.hown (X.hts _ h1) (X.hts _ h2) (X.hts _ h3) (X.hts _ h4) (by rw [X.hR.1]; exact hfr) (by rw [X.hR.2.1]; omega) m1 m2 hdg (k ls hl H locs cells slots rp)
theorem v_mabs (X : gX K cc nL own nm ret fr lo) {F : Mo β} (hd : F.1 h = some (r, h')) (hle : gLe h' (kh1 K)) {index : Nat} {c0 : ByteArray} (h1 : Cond.methodLink own index ⟨"java/lang/Math", "abs", "(I)I"⟩ ∈ lw_all) (h2 : Cond.static ⟨"java/lang/Math", "abs", "(I)I"⟩ ∈ lw_all) (h3 : Cond.initialized "java/lang/Math" ∈ lw_all) (h4 : Cond.code ⟨"java/lang/Math", "abs", "(I)I"⟩ c0 1 (some .int) ∈ lw_all) (hc0 : c0 = Lib.Math.abs.code) (hst : (st.map fun v => v.category).sum ≤ 8) (hfr : 1 ≤ fr) (hlo : 21 ≤ lo) {x : Int32} (hdg : decode cc pc = .ok (.invokestatic index, 3)) (k : V K nL h (pc + 3) lv (.int (if 0 ≤ x then x else 0 - x) :: st)) : V K nL h pc lv (.int x :: st) := by
  subst hc0
  intro ls hl H locs cells slots rp
  obtain ⟨m1, m2⟩ := gRp_le X hd hle rp
  exact va_mabs X.hx X.hb (by rw [X.hml]; exact hl.1.symm) X.hown (X.hts _ h1) (X.hts _ h2) (X.hts _ h3) (X.hts _ h4) (by rw [X.hR.1]; exact hfr) (by rw [X.hR.2.1]; omega) m1 m2 hdg (k ls hl H locs cells slots rp)
theorem opt_n {x : Option Nat} {A : Mo β} {B : Nat → Mo β} {z : Option (β × gH)} (q : x = none) (hd : (Mo.opt x A B).1 h = z) : A.1 h = z := by subst q; exact hd
theorem opt_s {y : Nat} {x : Option Nat} {A : Mo β} {B : Nat → Mo β} {z : Option (β × gH)} (q : x = some y) (hd : (Mo.opt x A B).1 h = z) : (B y).1 h = z := by subst q; exact hd
theorem v_ifnonnull (X : gX K cc nL own nm ret fr lo) {x : Option Nat} {off : Int} {tgt : Nat} (hdg : decode cc pc = .ok (.ifnonnull off, 3)) (ht : (pc : Int) + off = (tgt : Int)) (kt : ∀ y, x = some y → V K nL h tgt lv st) (kf : x = none → V K nL h (pc + 3) lv st) : V K nL h pc lv (va_rf x :: st) := by
  cases x with
  | none => exact fun ls hl H locs cells slots rp => lv_ifnonnullN X.hx X.hb hdg (kf rfl ls hl H locs cells slots rp)
  | some y => exact fun ls hl H locs cells slots rp => lv_ifnonnull X.hx X.hb hdg ht (kt y rfl ls hl H locs cells slots rp)
theorem v_ifnull (X : gX K cc nL own nm ret fr lo) {x : Option Nat} {off : Int} {tgt : Nat} (hdg : decode cc pc = .ok (.ifnull off, 3)) (ht : (pc : Int) + off = (tgt : Int)) (kt : x = none → V K nL h tgt lv st) (kf : ∀ y, x = some y → V K nL h (pc + 3) lv st) : V K nL h pc lv (va_rf x :: st) := by
  cases x with
  | none => exact fun ls hl H locs cells slots rp => lv_ifnullN X.hx X.hb hdg ht (kt rfl ls hl H locs cells slots rp)
  | some y => exact fun ls hl H locs cells slots rp => lv_ifnull X.hx X.hb hdg (kf y rfl ls hl H locs cells slots rp)
/-- a reference that may be null is used: it isn't -/
theorem v_some {x : Option Nat} {f : Nat → Mo β} {z : β × gH} (hd : (Mo.opt x Mo.fail f).1 h = some z) (k : ∀ y, (f y).1 h = some z → V K nL h pc lv (.ref y :: st)) : V K nL h pc lv (va_rf x :: st) := by
  cases x with
  | none => cases hd
  | some y => exact k y hd
theorem cpyI_some {a0 a : Nat} {sp dp n : Int32} {f0 : Unit → Mo β} (hd : (Mo.bind (cpyI a0 sp a dp n) f0).1 h = some (r, h')) : ∃ n0 n1 f g, h.1 a0 = .inl (0, n0, .inl f) ∧ h.1 a = .inl (0, n1, .inl g) ∧ (¬ sp < 0 ∧ ¬ dp < 0 ∧ ¬ n < 0 ∧ sp.toNatClampNeg + n.toNatClampNeg ≤ n0 ∧ dp.toNatClampNeg + n.toNatClampNeg ≤ n1) ∧ (f0 ()).1 (va_up h.1 a (.inl (0, n1, .inl (va_cpy f g sp.toNatClampNeg dp.toNatClampNeg n.toNatClampNeg))), h.2) = some (r, h') := by
  obtain ⟨y, h1, e1, e2⟩ := Mo.bind_some hd
  obtain ⟨c, e3, rfl⟩ := Mo.wr_some e1
  revert e3
  rcases hh : h.1 a0 with ⟨k, n0, f | f | f⟩ | o
  · rcases hg : h.1 a with ⟨k2, n1, g | g | g⟩ | o2
    · intro e3
      simp only at e3
      by_cases z : k = 0 ∧ k2 = 0 ∧ ¬ sp < 0 ∧ ¬ dp < 0 ∧ ¬ n < 0 ∧ sp.toNatClampNeg + n.toNatClampNeg ≤ n0 ∧ dp.toNatClampNeg + n.toNatClampNeg ≤ n1
      · rw [if_pos z] at e3
        cases e3
        obtain ⟨rfl, rfl, z⟩ := z
        exact ⟨n0, n1, f, g, rfl, rfl, z, e2⟩
      · rw [if_neg z] at e3; cases e3
    · intro e3; cases e3
    · intro e3; cases e3
    · intro e3; cases e3
  · intro e3; cases e3
  · intro e3; cases e3
  · intro e3; cases e3
theorem v_cpyI (X : gX K cc nL own nm ret fr lo) {a0 a : Nat} {sp dp n : Int32} {f0 : Unit → Mo β} (hd : (Mo.bind (cpyI a0 sp a dp n) f0).1 h = some (r, h')) {index : Nat} (q1 : Cond.methodLink own index arraycopyName ∈ lw_all) (q2 : Cond.native arraycopyName ∈ lw_all) (q3 : Cond.static arraycopyName ∈ lw_all) (q4 : Cond.initialized "java/lang/System" ∈ lw_all) (hst : (st.map fun v => v.category).sum ≤ 8) (hfr : 1 ≤ fr) (hlo : 8 + (nativeFrameWords "java/lang/System" "arraycopy" 5 + 11) ≤ lo) (hdg : decode cc pc = .ok (.invokestatic index, 3)) (kk : ∀ h2 : gH, (f0 ()).1 h2 = some (r, h') → V K nL h2 (pc + 3) lv st) : V K nL h pc lv (.int n :: .int dp :: .ref a :: .int sp :: .ref a0 :: st) := by
  intro ls hl H locs cells slots rp
  obtain ⟨n0, n1, f, g, e1, e2, ⟨z1, z2, z3, z4, z5⟩, e3⟩ := cpyI_some hd
  obtain ⟨-, -, hc0⟩ := rp.1.arr e1 (by simp)
  obtain ⟨g1, g2, hc1⟩ := rp.1.arr e2 (by simp)
  have nn : ∀ z : Int32, ¬ z < 0 → z.toInt = (z.toNatClampNeg : Int) := by
    intro z hz
    have hz0 : (0 : Int) ≤ z.toInt := by
      have := Int32.not_lt.mp hz
      simpa using Int32.le_iff_toInt_le.mp this
    show z.toInt = ((z.toInt.toNat : Nat) : Int)
    omega
  intro T hT XS
  obtain ⟨-, k0, hk0, cm0, hkk0⟩ := gK_arr X 0 rfl n0 (fun j => .int (f j))
  obtain ⟨-, k1, hk1, cm1, hkk1⟩ := gK_arr X 0 rfl n1 (fun j => .int (g j))
  obtain ⟨vm', X', step⟩ := XS.arraycopy X.hx X.hown (X.hts _ q1) (X.hts _ q2) (X.hts _ q3) (X.hts _ q4) (src := a0) (dst := a) (cs := gCell (kG K) 0 n0 (.inl f)) (cd := gCell (kG K) 0 n1 (.inl g)) (srcPos := sp) (destPos := dp) (n := n) (by rw [hT]; exact hc0) (by rw [hT]; exact hc1)
    (fun _ h => by cases h) (fun _ h => by cases h) (fun h => by cases h) (fun h => by cases h) hk0 hk1 hkk0 hkk1 (by simp [refKind]) z1 z2 z3
    (by rw [nn sp z1, nn n z3, gCell_size]; omega)
    (by rw [nn dp z2, nn n z3, gCell_size]; omega)
    (fun vm₁ _ i hi => by
      have e : (gCell (kG K) 0 n0 (.inl f)).slots.getD (sp.toNatClampNeg + i) .null = .int (f (sp.toNatClampNeg + i)) := by
        show (arrV _ n0 (fun j => .int (f j))).slots.getD _ _ = _
        rw [Array.getD_eq_getD_getElem?, arrV_read _ _ (by omega)]
        rfl
      refine ⟨?_, ?_⟩
      · rw [e]; rfl
      · rw [e]; exact trivial)
    (g := F0 (km K) pc ls (.int n :: .int dp :: .ref a :: .int sp :: .ref a0 :: st)) rfl (by rw [X.hml]; exact hl.1) (rest := st) rfl (by rw [X.hb]; exact hdg) (by rw [X.hR.1]; exact hfr) (by show 2 * 0 + _ + _ ≤ _; rw [X.hR.2.1]; omega)
  have e4 : copied (gCell (kG K) 0 n0 (.inl f)) (gCell (kG K) 0 n1 (.inl g)) sp dp n = gCell (kG K) 0 n1 (.inl (va_cpy f g sp.toNatClampNeg dp.toNatClampNeg n.toNatClampNeg)) := va_copied (fun z => .int z) _ _ f g z4
  rw [e4] at X' step
  have hlt : a < H.size := (Array.getElem?_eq_some_iff.mp hc1).1
  have hheap : ((T.setVm vm').setCell a (gCell (kG K) 0 n1 (.inl (va_cpy f g sp.toNatClampNeg dp.toNatClampNeg n.toNatClampNeg)))).heap = H.setIfInBounds a (gCell (kG K) 0 n1 (.inl (va_cpy f g sp.toNatClampNeg dp.toNatClampNeg n.toNatClampNeg))) := by rw [← hT]; rfl
  have oq : ∀ q : Nat, q ≠ a → (H.setIfInBounds a (gCell (kG K) 0 n1 (.inl (va_cpy f g sp.toNatClampNeg dp.toNatClampNeg n.toNatClampNeg))))[q]? = H[q]? := fun q hq => by simp [Array.getElem?_setIfInBounds, Ne.symm hq]
  obtain ⟨t, a1, b1⟩ := kk _ e3 ls hl _ _ cells slots ⟨rp.1.set g1 g2 (show (H.setIfInBounds a _)[a]? = some _ by simp [Array.getElem?_setIfInBounds, hlt]) (by simp) oq, ⟨by simp; exact rp.2.1.1, fun q y1 y2 => by
      rw [oq q (fun e => y2 (by rw [e]; exact g1))]
      exact rp.2.1.2.1 q y1 y2, fun q hq => by
      rcases List.mem_append.mp hq with m | m
      · exact rp.2.1.2.2 q m
      · obtain ⟨z, -, hz⟩ := List.mem_map.mp m
        rw [← hz]
        exact g1⟩, rp.2.2.1, rp.2.2.2⟩ _ hheap X'
  exact ⟨t, step t a1, b1⟩
end
