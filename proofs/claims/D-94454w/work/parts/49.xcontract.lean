set_option maxRecDepth 100000
def oX {α : Type} (ov : α → Option Value) : Nat ⊕ α → Outcome
  | .inl a => .threw a
  | .inr x => .returned (ov x)
/-- the contract of a method that may throw -/
def gCx (G : gG) (y : MethodName) (cc : ByteArray) (nL : Nat) (ret : Option FieldType) (fr lo : Nat) (av : List Value) {α : Type} (f : Mo (Nat ⊕ α)) (ov : α → Option Value) : Prop :=
  ∀ l : Launch, l.flags = flags0 → ∀ (h : gH) (r : Nat ⊕ α) (h' : gH), f.1 h = some (r, h') →
    MetX l y (ws_ y cc nL ret) ({ frames := fr, cells := h'.2.1 - h.2.1, slots := h'.2.2 - h.2.2, locals := lo }) (va_Pc av (gW G h)) (gQc G (oX ov r) h') (h'.2.1 - h.2.1) (h'.2.2 - h.2.2) (gY G)
theorem gCx.of {G : gG} {y : MethodName} {cc : ByteArray} {nL : Nat} {ret : Option FieldType} {fr lo : Nat} {av : List Value} {α : Type} {f : Mo (Nat ⊕ α)} {ov : α → Option Value} (hy : plainName y.cls = true) (hlen : (lg_sl av).length ≤ nL)
    (body : ∀ (K : gK) (r : Nat ⊕ α), kG K = G → gX K cc nL y.cls y.name ret fr lo → (kc K).exceptionTable.isEmpty = true → f.1 (kh0 K) = some (r, kh1 K) → ko K = oX ov r → V K nL (kh0 K) 0 (lv_args 0 av) []) : gCx G y cc nL ret fr lo av f ov := by
  intro l hfl h r h' hf
  refine MetFree.of_bodyS (code := cc) (maxLocals := nL) (ret := ret) hy ?_ ?_
  · intro args s m h hn
    obtain ⟨meth, c, h1, h2, h3, h4, h5, h6, -, -⟩ := Cond.code_spec hn (atoms_spec (ws := ws_ y cc nL ret) h _ List.mem_cons_self)
    exact ⟨meth, c, h1, h2, h3, h4, h5, h6⟩
  · intro p e s m args below meth c s₁ B hml hv _
    have hh0 : s₁.heap = s.heap := by rw [B.state]; rfl
    obtain ⟨rfl, hw⟩ := hv
    have hle := f.2 _ _ _ hf
    have hts0 := atoms_spec (ws := ws_ y cc nL ret) B.pre
    have hts : ∀ w ∈ lw_all, w.before _ s = true := fun w h => hts0 w (List.mem_cons_of_mem _ h)
    let K : gK := (p, l, e, (headSpec (ws_ y cc nL ret) ({ frames := fr, cells := h'.2.1 - h.2.1, slots := h'.2.2 - h.2.2, locals := lo })).room, s, m, av.toArray, below, meth, c, G, h, oX ov r, h')
    have X : gX K cc nL y.cls y.name ret fr lo := by
      refine ⟨B.exec, B.bytes, hml, findClass_of_methodNamed B.named, hts, B.notSynchronized, B.returns, (name_of_methodNamed B.named B.method).1, hw, ⟨rfl, rfl, ?_, ?_⟩, hfl⟩
      · show h'.2.1 - h.2.1 + h.2.1 = h'.2.1
        exact Nat.sub_add_cancel hle.1
      · show h'.2.2 - h.2.2 + h.2.2 = h'.2.2
        exact Nat.sub_add_cancel hle.2
    have X₀ := Stand.of_body B
    have hex : (kc K).exceptionTable.isEmpty = true := by
      obtain ⟨meth', c', g1, g2, -, -, -, -, g3, -⟩ := Cond.code_spec B.named (hts0 _ List.mem_cons_self)
      cases X₀.method.symm.trans g1
      cases X₀.code.symm.trans g2
      exact g3
    have hV := body K r rfl X hex hf rfl
    have hl := lv_entry av (n := nL) hlen
    rw [lg_entry_eq]
    have hw1 : W p l e (headSpec (ws_ y cc nL ret) ({ frames := fr, cells := h'.2.1 - h.2.1, slots := h'.2.2 - h.2.2, locals := lo })).room s m av.toArray below meth c s.heap [] 0 0 (gMQ K) (F0 m 0 _ []) :=
      hV _ hl s.heap [] 0 0 ⟨hw.1, va_S.rf, Nat.zero_add _, Nat.zero_add _⟩
    obtain ⟨t, a1, b1, b2, b3, b4, L, b5, b6⟩ := hw1 s₁ hh0 X₀
    exact ⟨t, _, a1, b1, b2, b3, L, ⟨b4, b5⟩, b6⟩
section
variable {K : gK} {cc : ByteArray} {nL : Nat} {own nm : String} {ret : Option FieldType} {fr lo : Nat} {h : gH} {pc : Nat} {lv : List (Nat × Value)} {st : List Value}
theorem gOut (hex : (kc K).exceptionTable.isEmpty = true) (pc : Nat) : ∀ x ∈ (kc K).exceptionTable.toList, covers x pc = false := by
  intro x hx
  have : (kc K).exceptionTable.toList = [] := by
    rw [Array.isEmpty_iff] at hex
    rw [hex]
  rw [this] at hx
  cases hx
/-- the throw leaves the method -/
theorem v_athrow (X : gX K cc nL own nm ret fr lo) (hex : (kc K).exceptionTable.isEmpty = true) {a : Nat} (ho : ko K = .threw a) (hh : kh1 K = h) (hdg : decode cc pc = .ok (.athrow, 1)) : V K nL h pc lv (.ref a :: st) := by
  intro ls hl H locs cells slots rp T hT XS
  have hlk := X.hlk
  obtain ⟨w1, w2, w3, w4, w5⟩ := XS.athrowLeaves X.hx (g := F0 (km K) pc ls (.ref a :: st)) rfl rfl rfl (gOut hex pc) (a := a) (rest := st) rfl (by rw [X.hb]; exact hdg) hlk
  have e1 : (kh1 K).2.1 - (kh0 K).2.1 = cells := by have := rp.2.2.1; rw [hh]; omega
  have e2 : (kh1 K).2.2 - (kh0 K).2.2 = slots := by have := rp.2.2.2; rw [hh]; omega
  refine ⟨_, w1, w2, by rw [ho]; exact w3, ⟨rfl, ?_⟩, w4, locs, ?_, rp.2.1.2.2⟩
  · rw [hh]
    exact gW_end X rp (t := T.setFrames (.throwing a :: kb K)) hT w4
  · rw [e1, e2]; exact w5
end
