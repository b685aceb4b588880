set_option maxRecDepth 100000
/-- a throw of b is noted above the frame at pc: from there the method comes to its end -/
def VX (K : gK) (nL : Nat) (h : gH) (pc : Nat) (lv : List (Nat × Value)) (st : List Value) (b : Nat) : Prop := ∀ ls : Array Slot, lv_has ls nL lv → ∀ (H : Heap) (locs : List Loc) (cells slots : Nat), gRp K h H locs cells slots → ∀ T : State, T.heap = H → Stand (kp K) (kl K) (ke K) (kR K) (ks K) (km K) (ka K) (kb K) (kt K) (kc K) T locs cells slots → ∃ t, Steps (kp K).tables (ke K) (kb K) ((T.setTop (F0 (km K) pc ls st)).pushFrame (.throwing b)) t ∧ gMQ K t
section
variable {K : gK} {cc : ByteArray} {nL : Nat} {own nm : String} {ret : Option FieldType} {fr lo : Nat} {h : gH} {pc : Nat} {lv : List (Nat × Value)} {st : List Value} {β : Type} {r : β} {h' : gH}
variable {α : Type} {f : Mo (Nat ⊕ α)} {g : Nat ⊕ α → Mo β} {y : MethodName} {cy : ByteArray} {nLy fry loy : Nat} {rety : Option FieldType} {av : List Value} {ov : α → Option Value}
theorem vx_leave (X : gX K cc nL own nm ret fr lo) (hex : (kc K).exceptionTable.isEmpty = true) {b : Nat} (ho : ko K = .threw b) (hh : kh1 K = h) : VX K nL h pc lv st b := by
  intro ls hl H locs cells slots rp T hT XS
  have hlk := X.hlk
  obtain ⟨w1, w2, w3, w4, w5⟩ := XS.leaveThrown b (g := F0 (km K) pc ls st) rfl rfl rfl (gOut hex pc) hlk
  have e1 : (kh1 K).2.1 - (kh0 K).2.1 = cells := by have := rp.2.2.1; rw [hh]; omega
  have e2 : (kh1 K).2.2 - (kh0 K).2.2 = slots := by have := rp.2.2.2; rw [hh]; omega
  refine ⟨_, w1, w2, by rw [ho]; exact w3, ⟨rfl, ?_⟩, w4, locs, ?_, rp.2.1.2.2⟩
  · rw [hh]
    exact gW_end X rp (t := T.setFrames (.throwing b :: kb K)) hT w4
  · rw [e1, e2]; exact w5
theorem v_backX (X : gX K cc nL own nm ret fr lo) (hd : (Mo.bind f g).1 h = some (r, h')) (hle : gLe h' (kh1 K)) (ct : gCx (kG K) y cy nLy rety fry loy av f ov) (hc : Cond.code y cy nLy rety ∈ lw_all) (hi : Cond.initialized y.cls ∈ lw_all) (hR : fry + 1 ≤ fr ∧ 8 + (nLy + 11) + loy ≤ lo) {st0 : List Value} {ig : Instr} (hdg : decode cc pc = .ok (ig, 3)) (hW8 : (st.map fun v => v.category).sum ≤ 8)
    (hent : ∀ (ls : Array Slot) (H : Heap) (locs : List Loc) (cells slots : Nat) (T : State) (b : Nat ⊕ α) (h1 : gH), gRp K h H locs cells slots → f.1 h = some (b, h1) → T.heap = H → Stand (kp K) (kl K) (ke K) (kR K) (ks K) (km K) (ka K) (kb K) (kt K) (kc K) T locs cells slots → gEnt (kp K) (kl K) (ke K) (kR K) (ks K) (km K) (ka K) (kb K) (kt K) (kc K) T locs cells slots (F0 (km K) pc ls st0) st y av.toArray)
    (kk : ∀ (x : α) (h1 : gH), (g (.inr x)).1 h1 = some (r, h') → V K nL h1 (pc + 3) lv ((ov x).toList ++ st))
    (kt : ∀ (b : Nat) (h1 : gH), (g (.inl b)).1 h1 = some (r, h') → VX K nL h1 pc lv st b) : V K nL h pc lv st0 := by
  intro ls hl H locs cells slots rp T hT XS
  obtain ⟨b, h1, e1, e2⟩ := Mo.bind_some hd
  have l1 := f.2 _ _ _ e1
  have l2 := ((g b).2 _ _ _ e2).tr hle
  have hrm := gRp_room X (h2 := h1) (n := h1.2.1 - h.2.1) (k := h1.2.2 - h.2.2) rp (by have := l1.1; omega) (by have := l1.2; omega) l2
  obtain ⟨vm₁, mk, hW₁, X₁, hnm, hstep⟩ := hent ls H locs cells slots T b h1 rp e1 hT XS
  have hgood := lw_meth hc
  have hws := pay_in X.hts hgood
  obtain ⟨o, t, T', L, z1, z2, X', hL, ⟨st₀, z3, z4⟩, hrun⟩ := gBackX (bytes := cy) (maxL := nLy) (ret := rety) (len := 3) (ct (kl K) X.hfl h b h1 e1) gW_blind rfl rfl (by rw [X.hR.1]; exact hR.1) (by rw [X.hR.2.1]; exact hR.2) hws (hws _ List.mem_cons_self) (fun a' U hW => word_at hW (Or.inl (by first | rfl | simp [Cond.onTables, Cond.keeps, Cond.steady])) (X.hts _ hi)) X₁
    (g := { F0 (km K) pc ls st0 with stack := st }) (ig := ig) (mk := mk) (a := av.toArray) rfl (by rw [X.hml]; exact hl.1) (by rw [X.hb]; exact hdg) (by show 2 * 0 + (st.map fun v => v.category).sum ≤ 8; omega) hnm hrm.1 hrm.2 ⟨rfl, (gW_end X rp (t := T.setVm vm₁) hT hW₁).1⟩
  obtain ⟨z5, z6, z7⟩ := z4
  have z3 : st₀.heap = H := z3.trans hT
  have hsz : (kG K).1 ≤ (ks K).heap.size := by rw [X.hW.1.1]; exact X.hW.1.2.1
  have rp' : gRp K h1 T'.heap (locs ++ L) (cells + (h1.2.1 - h.2.1)) (slots + (h1.2.2 - h.2.2)) := by
    rw [z1]
    refine ⟨z6.1, ⟨?_, fun q q1 q2 => ?_, fun q hq => ?_⟩, ?_, ?_⟩
    · have a1 := rp.2.1.1; have a2 := rp.1.1; have a3 := z6.1.1; have a4 := l1.1; omega
    · have q3 : q < (kG K).1 := Nat.lt_of_not_le q2
      rw [z7 q q3, z3]
      exact rp.2.1.2.1 q q1 q2
    · rcases List.mem_append.mp hq with m | m
      · exact rp.2.1.2.2 q m
      · exact hL q m
    · have a1 := rp.2.2.1; have a4 := l1.1; omega
    · have a1 := rp.2.2.2; have a4 := l1.2; omega
  rcases hrun with ⟨v, hv, hs⟩ | ⟨b2, hv, hs⟩
  · cases b with
    | inl b3 => rw [hv] at z5; cases z5
    | inr x =>
      rw [hv] at z5
      cases z5
      obtain ⟨t2, a1, b1⟩ := kk x h1 e2 ls hl T'.heap (locs ++ L) _ _ rp' T' rfl X'
      exact ⟨t2, hstep t2 (hs.trans a1), b1⟩
  · cases b with
    | inr x => rw [hv] at z5; cases z5
    | inl b3 =>
      rw [hv] at z5
      cases z5
      obtain ⟨t2, a1, b1⟩ := kt _ h1 e2 ls hl T'.heap (locs ++ L) _ _ rp' T' rfl X'
      exact ⟨t2, hstep t2 (hs.trans a1), b1⟩
end
