set_option maxRecDepth 100000
section
variable {K : gK} {cc : ByteArray} {nL : Nat} {own nm : String} {ret : Option FieldType} {fr lo : Nat} {h : gH} {pc : Nat} {lv : List (Nat × Value)} {st : List Value} {β : Type} {r : β} {h' : gH}
/-- the same for a store: the field's type, whether the store is lawful, that the class's slots are apart -/
def gFp (own nm : String) (index : Nat) (cs : List Nat) (k : Nat) (ty : FieldType) : Prop := ∀ (args : Array Value) (s : State), (∀ w ∈ lw_all, w.before args s = true) → gN s → ∀ ci ∈ cs, ∃ (C : String) (T : u_T) (N : Nat) (ref : String), gCl[ci]? = some (C, T, N) ∧ (∀ w ∈ u_ws C T N, w ∈ lw_all) ∧ k < N ∧ (((T k).2.2.2 = false ∧ ((Cond.fieldLink own index ref (T k).2.1 (T k).2.2.1).before args s = true ∨ ∃ host, (Cond.fieldLinkNest own index ref (T k).2.1 (T k).2.2.1 host).before args s = true)) ∨ ((T k).2.2.2 = true ∧ nm = "<init>" ∧ (T k).1 = own ∧ (∀ cf kf fi fd, s.fieldFound? (T k).1 (T k).2.1 (T k).2.2.1 = some (cf, kf, fi, fd) → s.vm.findClass own = some cf) ∧ (Cond.fieldLink own index ref (T k).2.1 (T k).2.2.1).before args s = true)) ∧ (∀ x, s.fieldFound? (T k).1 (T k).2.1 (T k).2.2.1 = some x → s.fieldFound? ref (T k).2.1 (T k).2.2.1 = some x) ∧ parseFieldDescriptor (T k).2.2.1 = some ty ∧ ∀ (D : va_G) (tys : List (ClassId × FieldType)), va_K D gCl tys s → ∀ x y, x < N → y < N → x ≠ y → (D.2 ci) x ≠ (D.2 ci) y
theorem pF_some {cs : List Nat} {a k : Nat} {v : Value} {f : Unit → Mo β} (hd : (Mo.bind (pF cs a k v) f).1 h = some (r, h')) : ∃ o, h.1 a = .inr o ∧ o.1 ∈ cs ∧ k < o.2.length ∧ (f ()).1 (va_up h.1 a (.inr (o.1, o.2.set k v)), h.2) = some (r, h') := by
  obtain ⟨x, h1, e1, e2⟩ := Mo.bind_some hd
  obtain ⟨c, e3, rfl⟩ := Mo.wr_some e1
  cases ho : h.1 a with
  | inl y => simp [ho] at e3
  | inr o =>
    simp only [ho] at e3
    by_cases z : o.1 ∈ cs ∧ k < o.2.length
    · rw [if_pos z] at e3
      cases e3
      exact ⟨o, rfl, z.1, z.2, e2⟩
    · rw [if_neg z] at e3
      cases e3
theorem v_put (X : gX K cc nL own nm ret fr lo) {index k a : Nat} {cs : List Nat} {v : Value} {ty : FieldType} {f : Unit → Mo β} (hd : (Mo.bind (pF cs a k v) f).1 h = some (r, h')) (fl : gFp own nm index cs k ty) (hn : narrow ty v = v) (hfit : fits ty v = true) (hdg : decode cc pc = .ok (.putfield index, 3)) (kk : ∀ h2 : gH, (f ()).1 h2 = some (r, h') → V K nL h2 (pc + 3) lv st) : V K nL h pc lv (v :: .ref a :: st) := by
  intro ls hl H locs cells slots rp
  obtain ⟨o, e1, e2, e3, e4⟩ := pF_some hd
  obtain ⟨g1, g2, rr, g3, g4, cell, q1, q2, q3, q4⟩ := rp.1.obj e1
  obtain ⟨C, T, N, ref, f1, f2, f3, f4, f5, f6, f7⟩ := fl _ _ X.hts X.hW.2.2.1 _ e2
  have hr : rr = (C, T, N) := Option.some.inj (g3.symm.trans f1)
  subst hr
  have hap := f7 _ _ X.hW.2.1
  obtain ⟨hS, hfc, kC, hkC, hkind⟩ := X.hW.2.1.1 o.1 _ f1
  obtain ⟨cf, kf, fi, fd, hi, hsl⟩ := hS k f3
  have hst := (u_facts hfc hkC (u_lays X.hts f2 f3) hi).1
  have key : ∀ H' : Heap, H'[a]? = some (cell.setSlot fd.slot v) → H'.size = H.size → (∀ q, q ≠ a → H'[q]? = H[q]?) → W (kp K) (kl K) (ke K) (kR K) (ks K) (km K) (ka K) (kb K) (kt K) (kc K) H' (locs ++ [⟨a, fd.slot⟩]) cells slots (gMQ K) (F0 (km K) (pc + 3) ls st) := by
    intro H' x1 x2 x3
    rw [hsl] at x1
    refine kk _ e4 ls hl H' _ cells slots ⟨rp.1.set g1 g2 ⟨_, f1, ?_, t_OB.to (V := updV (vp_V o.2) k v) ⟨_, x1, q2, q3, t_set q4 hap f3 v⟩ (fun j _ => vp_updV_set e3 v j)⟩ x2 x3, rp.2.1.put x2 x3 g1, rp.2.2.1, rp.2.2.2⟩
    show (o.2.set k v).length = N
    rw [List.length_set]; exact g4
  have hhas : fd.slot < cell.slots.size := by rw [hsl]; exact k2_hasslot (q4 k f3)
  rcases f4 with ⟨hfin, f4⟩ | ⟨hfin, hin, hdc, hcf, f4⟩
  · have hlay := X.hts _ (f2 _ (u_in_lay f3))
    unfold u_lay at hlay
    rw [if_neg (by rw [hfin]; decide)] at hlay
    have h6 := u_store hfc hkC hkind hlay hi f6 hn hfit
    rcases f4 with f4 | ⟨host, f4⟩
    · exact W.putK X.hx X.hb (f := fd) ⟨X.hown, f4, ⟨_, _, _, f5 _ hi⟩, hst⟩ (by rw [q2]; exact h6) q1 q3 hhas rfl rfl hdg key
    · exact va_WputK X.hx X.hb (f := fd) X.hown f4 (f5 _ hi) hst (by rw [q2]; exact h6) q1 q3 hhas rfl rfl hdg key
  · have h6 := u_fits hfc hkC hkind (u_lays X.hts f2 f3) hi f6 hn hfit
    have hcf2 : (km K).cls = cf := Option.some.inj (X.hown.symm.trans (hcf _ _ _ _ hi))
    exact W.putFinK X.hx X.hb X.hown f4 (f5 _ hi) hst hcf2 (by rw [X.hnm]; exact hin) (by rw [q2]; exact h6) q1 q3 hhas rfl rfl hdg key
/-! ===== arrays ===== -/
theorem gK_arr (X : gX K cc nL own nm ret fr lo) (i : Nat) {kd : Nat} {ty : FieldType} (hi : (gTys (kG K))[i]? = some ((kG K).2.2.1 kd, ty)) (n : Nat) (z : Nat → Value) : (ks K).isArrayOf (arrV ((kG K).2.2.1 kd) n z) ty := (X.hW.2.1.2 i _ hi).1 n z
theorem aldI_some {kd a : Nat} {i : Int32} {f : Int32 → Mo β} (hd : (Mo.bind (aldI kd a i) f).1 h = some (r, h')) : ∃ n g, h.1 a = .inl (kd, n, .inl g) ∧ vp_in i n ∧ (f (g i.toNatClampNeg)).1 h = some (r, h') := by
  obtain ⟨x, h1, e1, e2⟩ := Mo.bind_some hd
  obtain ⟨e3, rfl⟩ := Mo.rd_some e1
  revert e3
  rcases hh : h1.1 a with ⟨k, n, g | g | g⟩ | o
  · intro e3
    simp only at e3
    by_cases z : k = kd ∧ gIn i n = true
    · rw [if_pos z] at e3
      cases e3
      obtain ⟨rfl, z⟩ := z
      exact ⟨n, g, rfl, gIn_in z, e2⟩
    · rw [if_neg z] at e3; cases e3
  · intro e3; cases e3
  · intro e3; cases e3
  · intro e3; cases e3
theorem v_iald (X : gX K cc nL own nm ret fr lo) {a : Nat} {i : Int32} {f : Int32 → Mo β} (hd : (Mo.bind (aldI 0 a i) f).1 h = some (r, h')) (hdg : decode cc pc = .ok (.iaload, 1)) (kk : ∀ x : Int32, (f x).1 h = some (r, h') → V K nL h (pc + 1) lv (.int x :: st)) : V K nL h pc lv (.int i :: .ref a :: st) := by
  intro ls hl H locs cells slots rp
  obtain ⟨n, g, e1, e2, e3⟩ := aldI_some hd
  obtain ⟨-, -, q⟩ := rp.1.arr e1 (by simp)
  exact W.iald X.hx X.hb q (gK_arr X 0 rfl n _) (fun z => by cases z) (by show ¬ (i < 0 ∨ (arrV _ _ _).slots.size ≤ _); rw [arrV_size]; exact e2) (arrV_read _ _ (Nat.lt_of_not_le (fun z => e2 (Or.inr z)))) rfl rfl hdg (kk _ e3 ls hl H locs cells slots rp)
theorem v_bald (X : gX K cc nL own nm ret fr lo) {a : Nat} {i : Int32} {f : Int32 → Mo β} (hd : (Mo.bind (aldI 2 a i) f).1 h = some (r, h')) (hdg : decode cc pc = .ok (.baload, 1)) (kk : ∀ x : Int32, (f x).1 h = some (r, h') → V K nL h (pc + 1) lv (.int x :: st)) : V K nL h pc lv (.int i :: .ref a :: st) := by
  intro ls hl H locs cells slots rp
  obtain ⟨n, g, e1, e2, e3⟩ := aldI_some hd
  obtain ⟨-, -, q⟩ := rp.1.arr e1 (by simp)
  exact W.bald X.hx X.hb q (gK_arr X 2 rfl n _) (fun z => by cases z) (by show ¬ (i < 0 ∨ (arrV _ _ _).slots.size ≤ _); rw [arrV_size]; exact e2) (arrV_read _ _ (Nat.lt_of_not_le (fun z => e2 (Or.inr z)))) rfl rfl hdg (kk _ e3 ls hl H locs cells slots rp)
theorem v_zald (X : gX K cc nL own nm ret fr lo) {a : Nat} {i : Int32} {f : Int32 → Mo β} (hd : (Mo.bind (aldI 3 a i) f).1 h = some (r, h')) (hdg : decode cc pc = .ok (.baload, 1)) (kk : ∀ x : Int32, (f x).1 h = some (r, h') → V K nL h (pc + 1) lv (.int x :: st)) : V K nL h pc lv (.int i :: .ref a :: st) := by
  intro ls hl H locs cells slots rp
  obtain ⟨n, g, e1, e2, e3⟩ := aldI_some hd
  obtain ⟨-, -, q⟩ := rp.1.arr e1 (by simp)
  exact W.zald X.hx X.hb q (gK_arr X 3 rfl n _) (fun z => by cases z) (by show ¬ (i < 0 ∨ (arrV _ _ _).slots.size ≤ _); rw [arrV_size]; exact e2) (arrV_read _ _ (Nat.lt_of_not_le (fun z => e2 (Or.inr z)))) rfl rfl hdg (kk _ e3 ls hl H locs cells slots rp)
theorem aldL_some {a : Nat} {i : Int32} {f : Int64 → Mo β} (hd : (Mo.bind (aldL a i) f).1 h = some (r, h')) : ∃ n g, h.1 a = .inl (1, n, .inr (.inl g)) ∧ vp_in i n ∧ (f (g i.toNatClampNeg)).1 h = some (r, h') := by
  obtain ⟨x, h1, e1, e2⟩ := Mo.bind_some hd
  obtain ⟨e3, rfl⟩ := Mo.rd_some e1
  revert e3
  rcases hh : h1.1 a with ⟨k, n, g | g | g⟩ | o
  · intro e3; cases e3
  · intro e3
    simp only at e3
    by_cases z : k = 1 ∧ gIn i n = true
    · rw [if_pos z] at e3
      cases e3
      obtain ⟨rfl, z⟩ := z
      exact ⟨n, g, rfl, gIn_in z, e2⟩
    · rw [if_neg z] at e3; cases e3
  · intro e3; cases e3
  · intro e3; cases e3
theorem v_lald (X : gX K cc nL own nm ret fr lo) {a : Nat} {i : Int32} {f : Int64 → Mo β} (hd : (Mo.bind (aldL a i) f).1 h = some (r, h')) (hdg : decode cc pc = .ok (.laload, 1)) (kk : ∀ x : Int64, (f x).1 h = some (r, h') → V K nL h (pc + 1) lv (.long x :: st)) : V K nL h pc lv (.int i :: .ref a :: st) := by
  intro ls hl H locs cells slots rp
  obtain ⟨n, g, e1, e2, e3⟩ := aldL_some hd
  obtain ⟨-, -, q⟩ := rp.1.arr e1 (by simp)
  exact W.lald X.hx X.hb q (gK_arr X 1 rfl n _) (fun z => by cases z) (by show ¬ (i < 0 ∨ (arrV _ _ _).slots.size ≤ _); rw [arrV_size]; exact e2) (arrV_read _ _ (Nat.lt_of_not_le (fun z => e2 (Or.inr z)))) rfl rfl hdg (kk _ e3 ls hl H locs cells slots rp)
end
