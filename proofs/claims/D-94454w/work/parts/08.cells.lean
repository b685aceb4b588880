set_option maxRecDepth 100000
theorem gP.set {G : gG} {h : gH} {H H1 : Heap} {a : Nat} {e : gA} (w : gP G h H) (h1 : G.1 ≤ a) (h2 : a < h.2.1) (ha : gAt G a e H1) (hz : H1.size = H.size) (oq : ∀ q : Nat, q ≠ a → H1[q]? = H[q]?) : gP G (va_up h.1 a e, h.2) H1 := by
  refine ⟨hz.trans w.1, w.2.1, fun q q1 q2 => ?_, fun q hq => ?_⟩
  · by_cases x : q = a
    · subst x
      show gAtN G q (va_up h.1 q e q) H1
      rw [show va_up h.1 q e q = e by simp [va_up]]
      exact Or.inl ha
    · show gAtN G q (va_up h.1 a e q) H1
      rw [show va_up h.1 a e q = h.1 q by simp [va_up, x]]
      exact (w.2.2.1 q q1 q2).kept (oq q x)
  · have x : q ≠ a := fun z => hq (by rw [z]; exact ⟨h1, h2⟩)
    show va_up h.1 a e q = gDead
    rw [show va_up h.1 a e q = h.1 q by simp [va_up, x]]
    exact w.2.2.2 q hq
theorem gP.pushN {G : gG} {h : gH} {H H1 : Heap} {e : gA} {n : Nat} (w : gP G h H) (ha : gAtN G h.2.1 e H1) (hz : H1.size = h.2.1 + 1) (oq : ∀ q : Nat, q < h.2.1 → H1[q]? = H[q]?) : gP G (va_up h.1 h.2.1 e, h.2.1 + 1, n) H1 := by
  refine ⟨hz, Nat.le_succ_of_le w.2.1, fun q q1 q2 => ?_, fun q hq => ?_⟩
  · by_cases x : q = h.2.1
    · subst x
      show gAtN G _ (va_up h.1 _ e _) H1
      rw [show va_up h.1 h.2.1 e h.2.1 = e by simp [va_up]]
      exact ha
    · have q3 : q < h.2.1 := by have : q < h.2.1 + 1 := q2; omega
      show gAtN G q (va_up h.1 _ e q) H1
      rw [show va_up h.1 h.2.1 e q = h.1 q by simp [va_up, x]]
      exact (w.2.2.1 q q1 q3).kept (oq q q3)
  · have hq : ¬ (G.1 ≤ q ∧ q < h.2.1 + 1) := hq
    have x : q ≠ h.2.1 := fun z => hq (by rw [z]; exact ⟨w.2.1, Nat.lt_succ_self _⟩)
    show va_up h.1 h.2.1 e q = gDead
    rw [show va_up h.1 h.2.1 e q = h.1 q by simp [va_up, x]]
    exact w.2.2.2 q (fun z => hq ⟨z.1, Nat.lt_succ_of_lt z.2⟩)
theorem gP.push {G : gG} {h : gH} {H H1 : Heap} {e : gA} {n : Nat} (w : gP G h H) (ha : gAt G h.2.1 e H1) (hz : H1.size = h.2.1 + 1) (oq : ∀ q : Nat, q < h.2.1 → H1[q]? = H[q]?) : gP G (va_up h.1 h.2.1 e, h.2.1 + 1, n) H1 :=
  gP.pushN w (Or.inl ha) hz oq
theorem gFld_live {cs : List Nat} {a k : Nat} {h : gH} {v : Value} (e : gFld cs a k h = some v) : ∃ o, h.1 a = .inr o ∧ o.1 ∈ cs ∧ o.2[k]? = some v := by
  unfold gFld at e
  split at e
  · rename_i o ho
    split at e
    · exact ⟨o, ho, by assumption, e⟩
    · cases e
  · cases e
theorem gP.obj {G : gG} {h : gH} {H : Heap} {a : Nat} {o : Nat × List Value} (w : gP G h H) (e : h.1 a = .inr o) : G.1 ≤ a ∧ a < h.2.1 ∧ ∃ r : vw_C, gCl[o.1]? = some r ∧ o.2.length = r.2.2 ∧ t_OB a (G.2.1.1 o.1) r.2.2 (G.2.1.2 o.1) H (vp_V o.2) := by
  have h1 := w.live (a := a) (by rw [e]; exact fun z => by cases z) (by rw [e]; exact fun z => by cases z)
  rw [e] at h1
  exact h1
theorem gP.arr {G : gG} {h : gH} {H : Heap} {a : Nat} {x : Nat × Nat × ((Nat → Int32) ⊕ (Nat → Int64) ⊕ (Nat → Option Nat))} (w : gP G h H) (e : h.1 a = .inl x) (hx : x.1 < 90) : G.1 ≤ a ∧ a < h.2.1 ∧ H[a]? = some (gCell G x.1 x.2.1 x.2.2) := by
  have h1 := w.live (a := a) (by rw [e]; exact fun z => by unfold gDead at z; injection z with z; rw [z] at hx; exact absurd hx (by decide)) (by rw [e]; exact fun z => by unfold gNse at z; injection z with z; rw [z] at hx; exact absurd hx (by decide))
  rw [e] at h1
  exact h1
section
variable {K : gK} {cc : ByteArray} {nL : Nat} {own nm : String} {ret : Option FieldType} {fr lo : Nat} {h : gH} {pc : Nat} {lv : List (Nat × Value)} {st : List Value}
/-- the place (own, index) names the field k of the classes cs -/
def gFl (own : String) (index : Nat) (cs : List Nat) (k : Nat) : Prop := ∀ (args : Array Value) (s : State), (∀ w ∈ lw_all, w.before args s = true) → gN s → ∀ ci ∈ cs, ∃ (C : String) (T : u_T) (N : Nat) (ref : String), gCl[ci]? = some (C, T, N) ∧ (∀ w ∈ u_ws C T N, w ∈ lw_all) ∧ k < N ∧ ((Cond.fieldLink own index ref (T k).2.1 (T k).2.2.1).before args s = true ∨ ∃ host, (Cond.fieldLinkNest own index ref (T k).2.1 (T k).2.2.1 host).before args s = true) ∧ ∀ x, s.fieldFound? (T k).1 (T k).2.1 (T k).2.2.1 = some x → s.fieldFound? ref (T k).2.1 (T k).2.2.1 = some x
theorem v_get (X : gX K cc nL own nm ret fr lo) {index k a : Nat} {cs : List Nat} {v : Value} (fl : gFl own index cs k) (hv : gFld cs a k h = some v) (hdg : decode cc pc = .ok (.getfield index, 3)) (kk : V K nL h (pc + 3) lv (v :: st)) : V K nL h pc lv (.ref a :: st) := by
  intro ls hl H locs cells slots r
  obtain ⟨o, e1, e2, e3⟩ := gFld_live hv
  obtain ⟨-, -, rr, g1, g2, cell, q1, q2, q3, q4⟩ := r.1.obj e1
  obtain ⟨C, T, N, ref, f1, f2, f3, f4, f5⟩ := fl _ _ X.hts X.hW.2.2.1 _ e2
  have hr : rr = (C, T, N) := Option.some.inj (g1.symm.trans f1)
  subst hr
  obtain ⟨hS, hfc, kC, hkC, hkind⟩ := X.hW.2.1.1 o.1 _ f1
  obtain ⟨cf, kf, fi, f, hi, hsl⟩ := hS k f3
  have hk := kk ls hl H locs cells slots r
  have hv2 : cell.slots[f.slot]? = some v := by
    rw [hsl, q4 k f3]
    simp [vp_V, e3]
  have hst := (u_facts hfc hkC (u_lays X.hts f2 f3) hi).1
  rcases f4 with f4 | ⟨host, f4⟩
  · exact W.getf X.hx X.hb X.hown f4 (f5 _ hi) hst q1 (by rw [q3]; exact fun h => by cases h) hv2 rfl rfl hdg hk
  · exact va_Wgetf X.hx X.hb X.hown f4 (f5 _ hi) hst q1 (by rw [q3]; exact fun h => by cases h) hv2 rfl rfl hdg hk
theorem gRd {α β : Type} {cs : List Nat} {a k : Nat} {p : Value → Option α} {f : α → Mo β} {r : β} {h' : gH} (hd : (Mo.bind (Mo.rd fun h => (gFld cs a k h).bind p) f).1 h = some (r, h')) : ∃ v x, gFld cs a k h = some v ∧ p v = some x ∧ (f x).1 h = some (r, h') := by
  obtain ⟨x, h1, e1, e2⟩ := Mo.bind_some hd
  obtain ⟨e3, rfl⟩ := Mo.rd_some e1
  cases hg : gFld cs a k h1 with
  | none => rw [hg] at e3; cases e3
  | some v => rw [hg] at e3; exact ⟨v, x, rfl, e3, e2⟩
variable {β : Type} {r : β} {h' : gH}
theorem v_getI (X : gX K cc nL own nm ret fr lo) {index k a : Nat} {cs : List Nat} {f : Int32 → Mo β} (hd : (Mo.bind (gI cs a k) f).1 h = some (r, h')) (fl : gFl own index cs k) (hdg : decode cc pc = .ok (.getfield index, 3)) (kk : ∀ x : Int32, (f x).1 h = some (r, h') → V K nL h (pc + 3) lv (.int x :: st)) : V K nL h pc lv (.ref a :: st) := by
  obtain ⟨v, x, e1, e2, e3⟩ := gRd hd
  cases v <;> cases e2
  exact v_get X fl e1 hdg (kk _ e3)
theorem v_getL (X : gX K cc nL own nm ret fr lo) {index k a : Nat} {cs : List Nat} {f : Int64 → Mo β} (hd : (Mo.bind (gL cs a k) f).1 h = some (r, h')) (fl : gFl own index cs k) (hdg : decode cc pc = .ok (.getfield index, 3)) (kk : ∀ x : Int64, (f x).1 h = some (r, h') → V K nL h (pc + 3) lv (.long x :: st)) : V K nL h pc lv (.ref a :: st) := by
  obtain ⟨v, x, e1, e2, e3⟩ := gRd hd
  cases v <;> cases e2
  exact v_get X fl e1 hdg (kk _ e3)
theorem v_getR (X : gX K cc nL own nm ret fr lo) {index k a : Nat} {cs : List Nat} {f : Nat → Mo β} (hd : (Mo.bind (gR cs a k) f).1 h = some (r, h')) (fl : gFl own index cs k) (hdg : decode cc pc = .ok (.getfield index, 3)) (kk : ∀ x : Nat, (f x).1 h = some (r, h') → V K nL h (pc + 3) lv (.ref x :: st)) : V K nL h pc lv (.ref a :: st) := by
  obtain ⟨v, x, e1, e2, e3⟩ := gRd hd
  cases v <;> cases e2
  exact v_get X fl e1 hdg (kk _ e3)
theorem v_getN (X : gX K cc nL own nm ret fr lo) {index k a : Nat} {cs : List Nat} {f : Option Nat → Mo β} (hd : (Mo.bind (gNu cs a k) f).1 h = some (r, h')) (fl : gFl own index cs k) (hdg : decode cc pc = .ok (.getfield index, 3)) (kk : ∀ x : Option Nat, (f x).1 h = some (r, h') → V K nL h (pc + 3) lv (va_rf x :: st)) : V K nL h pc lv (.ref a :: st) := by
  obtain ⟨v, x, e1, e2, e3⟩ := gRd hd
  cases v <;> cases e2
  · exact v_get X fl e1 hdg (kk _ e3)
  · exact v_get X fl e1 hdg (kk _ e3)
theorem vZ_val {v : Value} {x : Bool} (e : vZ v = some x) : v = .int (b2i x) := by
  cases v with
  | int y =>
    have e : (if y = 0 then some false else if y = 1 then some true else none) = some x := e
    by_cases h0 : y = 0
    · rw [if_pos h0] at e
      cases e
      rw [h0]; rfl
    · rw [if_neg h0] at e
      by_cases h1 : y = 1
      · rw [if_pos h1] at e
        cases e
        rw [h1]; rfl
      · rw [if_neg h1] at e
        cases e
  | _ => cases e
theorem v_getZ (X : gX K cc nL own nm ret fr lo) {index k a : Nat} {cs : List Nat} {f : Bool → Mo β} (hd : (Mo.bind (gZ cs a k) f).1 h = some (r, h')) (fl : gFl own index cs k) (hdg : decode cc pc = .ok (.getfield index, 3)) (kk : ∀ x : Bool, (f x).1 h = some (r, h') → V K nL h (pc + 3) lv (.int (b2i x) :: st)) : V K nL h pc lv (.ref a :: st) := by
  obtain ⟨v, x, e1, e2, e3⟩ := gRd hd
  have hv := vZ_val e2
  subst hv
  exact v_get X fl e1 hdg (kk _ e3)
end
