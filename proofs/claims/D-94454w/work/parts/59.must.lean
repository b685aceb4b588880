set_option maxRecDepth 100000
/-! ===== throw new NoSuchElementException() ===== -/
noncomputable def nwX : Mo Nat := ⟨fun h => some (h.2.1, (va_up h.1 h.2.1 gNse, h.2.1 + 1, h.2.2 + 6)), fun h r h' e => by cases e; exact ⟨Nat.le_succ _, Nat.le_add_right _ _⟩⟩
noncomputable def M_X1_must (p1 : Bool) : Mo (Nat ⊕ Unit) := cond p1 (Mo.pure (Sum.inr ())) (Mo.bind nwX (fun a => Mo.pure (Sum.inl a)))
def dkwX1_must_0 : List UInt8 := [26, 154, 0, 11, 187, 0, 204, 89, 183, 0, 206, 191, 177]
abbrev dktX1_must_0 : List UInt8 := dkwX1_must_0 ++ []
theorem dksX1_must_0 : cX1_must.data.toList.drop 0 = dktX1_must_0 := by decide +kernel
theorem dX1_must_0 : decode cX1_must 0 = .ok (.iload_n 0, 1) := dk_26 (dk_at dksX1_must_0 0 rfl rfl)
theorem dX1_must_1 : decode cX1_must 1 = .ok (.ifCond .ne 11, 3) := dk_154 0 11 (dk_at dksX1_must_0 1 rfl rfl)
theorem dX1_must_4 : decode cX1_must 4 = .ok (.new 204, 3) := dk_187 0 204 (dk_at dksX1_must_0 4 rfl rfl)
theorem dX1_must_7 : decode cX1_must 7 = .ok (.dup, 1) := dk_89 (dk_at dksX1_must_0 7 rfl rfl)
theorem dX1_must_8 : decode cX1_must 8 = .ok (.invokespecial 206, 3) := dk_183 0 206 (dk_at dksX1_must_0 8 rfl rfl)
theorem dX1_must_11 : decode cX1_must 11 = .ok (.athrow, 1) := dk_191 (dk_at dksX1_must_0 11 rfl rfl)
theorem dX1_must_12 : decode cX1_must 12 = .ok (.return_, 1) := dk_177 (dk_at dksX1_must_0 12 rfl rfl)
theorem dn_X1_must : yX1_must.cls ≠ "java/lang/invoke/MethodHandle" ∧ yX1_must.cls ≠ "java/lang/invoke/VarHandle" ∧ (parseMethodDescriptor yX1_must.desc).map (fun d => d.parameters.length) = some 1 := by decide +kernel
theorem must_ws {args : Array Value} {s : State} {A : Nat → Prop} (hts : ∀ w ∈ lw_all, w.before args s = true) (hN : gN s) (h5 : gZs "UNASSIGNED_STACK" "[Ljava/lang/StackTraceElement;" A s s.heap) (h6 : gZs "SUPPRESSED_SENTINEL" "Ljava/util/List;" A s s.heap) :
    ∀ a ∈ Jvm.Bundle.ownAtoms0 "BitingDoors" 206 "java/util/NoSuchElementException" ["java/lang/RuntimeException", "java/lang/Exception"], a.before args s = true := by
  intro a ha
  simp only [Jvm.Bundle.ownAtoms0, Jvm.Bundle.throwableAtoms, Jvm.Bundle.chain0Atoms, Jvm.Bundle.passAtoms, List.cons_append, List.nil_append, List.append_assoc, List.mem_cons, List.mem_append, List.not_mem_nil, or_false] at ha
  rcases ha with rfl | rfl | rfl | rfl | rfl | rfl | rfl | rfl | rfl | rfl | rfl | rfl | rfl | rfl | rfl | rfl | rfl | rfl | rfl | rfl | rfl | rfl | rfl | rfl | rfl | rfl | rfl | rfl | rfl | rfl | rfl | rfl | rfl | rfl | rfl | rfl | rfl | rfl | rfl | rfl | rfl | rfl | rfl | rfl | rfl | rfl | rfl | rfl | rfl | rfl | rfl | rfl | rfl
  · exact hts _ q110
  · exact hts _ q174
  · exact hts _ q183
  · exact hts _ q186
  · exact hts _ q189
  · exact hts _ q191
  · exact hts _ q175
  · exact hts _ q176
  · exact hts _ q152
  · exact hts _ q153
  · exact hts _ q177
  · exact hts _ q182
  · exact hts _ q187
  · exact hts _ q207
  · exact hts _ q164
  · exact hts _ q208
  · exact hts _ q166
  · exact hts _ q209
  · exact hts _ q168
  · exact hts _ q178
  · exact h5.lays
  · exact hts _ q180
  · exact h6.lays
  · exact hts _ q170
  · exact hts _ q1633
  · exact hts _ q1634
  · exact hts _ q1635
  · exact hts _ q1636
  · exact va_Nw.use rfl (hN.2.2.2.1 ⟨"java/lang/RuntimeException", "<init>", "()V"⟩ (List.mem_of_getElem? (i := 4) rfl))
  · exact hts _ q1636
  · exact hts _ q1637
  · exact hts _ q1638
  · exact hts _ q1639
  · exact va_Nw.use rfl (hN.2.2.2.1 ⟨"java/lang/Exception", "<init>", "()V"⟩ (List.mem_of_getElem? (i := 2) rfl))
  · exact hts _ q1639
  · exact hts _ q1640
  · exact hts _ q1641
  · exact hts _ q175
  · exact va_Nw.use rfl (hN.2.2.2.1 ⟨"java/lang/Throwable", "<init>", "()V"⟩ (List.mem_of_getElem? (i := 0) rfl))
  · exact hts _ q1632
  · exact hts _ q1622
  · exact va_Nw.use rfl (hN.2.2.1 ("java/util/NoSuchElementException", "java/util/NoSuchElementException") (List.mem_of_getElem? (i := 2) rfl))
  · exact hts _ q1626
  · exact hts _ q185
  · exact hts _ q1627
  · exact hts _ q1628
  · exact hts _ q1629
  · exact hts _ q1630
  · exact h5.isRef
  · exact h6.isRef
  · exact hts _ q205
  · exact hts _ q172
  · exact hts _ q1631
theorem gCx.of0 {G : gG} {y : MethodName} {cc : ByteArray} {nL : Nat} {ret : Option FieldType} {fr lo : Nat} {av : List Value} {α : Type} {f : Mo (Nat ⊕ α)} {ov : α → Option Value} (hy : plainName y.cls = true) (hlen : (lg_sl av).length ≤ nL)
    (body : ∀ (K : gK) (r : Nat ⊕ α), kG K = G → gX K cc nL y.cls y.name ret fr lo → (kc K).exceptionTable.isEmpty = true → f.1 (kh0 K) = some (r, kh1 K) → ko K = oX ov r → ∀ ls : Array Slot, lv_has ls nL (lv_args 0 av) → W (kp K) (kl K) (ke K) (kR K) (ks K) (km K) (ka K) (kb K) (kt K) (kc K) (ks K).heap [] 0 0 (gMQ K) (F0 (km K) 0 ls [])) : gCx G y cc nL ret fr lo av f ov := by
  intro l hfl h r h' hf
  refine MetFree.of_bodyS (code := cc) (maxLocals := nL) (ret := ret) hy ?_ ?_
  · intro args s m h hn
    obtain ⟨meth, c, h1, h2, h3, h4, h5, h6, -, -⟩ := Cond.code_spec hn (atoms_spec (ws := ws_ y cc nL ret) h _ List.mem_cons_self)
    exact ⟨meth, c, h1, h2, h3, h4, h5, h6⟩
  · intro p e s m args below meth c s₁ B hml hv _
    have hh0 : s₁.heap = s.heap := by rw [B.state]; rfl
    obtain ⟨rfl, hw⟩ := hv
    have hle := f.2 _ _ _ hf
    have hts0 := atoms_spec (ws := ws_ y cc nL ret) B.pre
    have hts : ∀ w ∈ lw_all, w.before _ s = true := fun w h => hts0 w (List.mem_cons_of_mem _ h)
    let K : gK := (p, l, e, (headSpec (ws_ y cc nL ret) ({ frames := fr, cells := h'.2.1 - h.2.1, slots := h'.2.2 - h.2.2, locals := lo })).room, s, m, av.toArray, below, meth, c, G, h, oX ov r, h')
    have X : gX K cc nL y.cls y.name ret fr lo := by
      refine ⟨B.exec, B.bytes, hml, findClass_of_methodNamed B.named, hts, B.notSynchronized, B.returns, (name_of_methodNamed B.named B.method).1, hw, ⟨rfl, rfl, ?_, ?_⟩, hfl⟩
      · show h'.2.1 - h.2.1 + h.2.1 = h'.2.1
        exact Nat.sub_add_cancel hle.1
      · show h'.2.2 - h.2.2 + h.2.2 = h'.2.2
        exact Nat.sub_add_cancel hle.2
    have X₀ := Stand.of_body B
    have hex : (kc K).exceptionTable.isEmpty = true := by
      obtain ⟨meth', c', g1, g2, -, -, -, -, g3, -⟩ := Cond.code_spec B.named (hts0 _ List.mem_cons_self)
      cases X₀.method.symm.trans g1
      cases X₀.code.symm.trans g2
      exact g3
    have hV := body K r rfl X hex hf rfl
    have hl := lv_entry av (n := nL) hlen
    rw [lg_entry_eq]
    have hw1 : W p l e (headSpec (ws_ y cc nL ret) ({ frames := fr, cells := h'.2.1 - h.2.1, slots := h'.2.2 - h.2.2, locals := lo })).room s m av.toArray below meth c s.heap [] 0 0 (gMQ K) (F0 m 0 _ []) :=
      hV _ hl
    obtain ⟨t, a1, b1, b2, b3, b4, L, b5, b6⟩ := hw1 s₁ hh0 X₀
    exact ⟨t, _, a1, b1, b2, b3, L, ⟨b4, b5⟩, b6⟩

theorem ct_X1_must (G : gG) (p1 : Bool) : gCx G yX1_must cX1_must 1 none 6 81 [.int (b2i p1)] (M_X1_must p1) (fun _ : Unit => none) := by
  cases p1 with
  | true =>
    refine gCx.of (by decide) (Nat.le_of_ble_eq_true rfl) (fun K r hG X hex hd ho => ?_)
    subst hG
    have X : gX K cX1_must 1 "BitingDoors" "must" none 6 81 := X
    show V K 1 (kh0 K) 0 [(0, .int 1)] []
    refine v_iload_n X dX1_must_0 0 0 rfl rfl ?_
    refine v_if_ne (tgt := 12) X dX1_must_1 (by decide) (fun q => ?_) (fun q => absurd q (by decide))
    have hd : (Mo.pure (Sum.inr () : Nat ⊕ Unit)).1 (kh0 K) = some (r, kh1 K) := hd
    obtain ⟨rfl, hd2⟩ := px_inr hd
    exact v_vret X hd2 ho dX1_must_12
  | false =>
    refine gCx.of0 (by decide) (Nat.le_of_ble_eq_true rfl) (fun K r hG X hex hd ho ls hl => ?_)
    subst hG
    have X : gX K cX1_must 1 "BitingDoors" "must" none 6 81 := X
    have hl : lv_has ls 1 [(0, .int 0)] := hl
    have hd : (Mo.bind nwX (fun a => Mo.pure (Sum.inl a : Nat ⊕ Unit))).1 (kh0 K) = some (r, kh1 K) := hd
    obtain ⟨a, h1, e1, e2⟩ := Mo.bind_some hd
    cases e1
    obtain ⟨rfl, hh⟩ := px_inl e2
    obtain ⟨r1, r2, r3, r4⟩ := X.hR
    rw [hh] at r3 r4
    have r3 : (kR K).cells + (kh0 K).2.1 = (kh0 K).2.1 + 1 := r3
    have r4 : (kR K).slots + (kh0 K).2.2 = (kh0 K).2.2 + 6 := r4
    have hKn := X.hW.2.1.1 21 _ gCl_J9
    refine lv_iload_n X.hx X.hb dX1_must_0 rfl (lv_at hl 0 rfl) ?_
    refine lv_if_ne (tgt := 12) X.hx X.hb dX1_must_1 (by decide) (fun q => absurd rfl q) (fun _ => ?_)
    refine W.newcK X.hx X.hb X.hown (X.hts _ q1621) (X.hts _ q1622) (X.hts _ q130) rfl dX1_must_4 (by omega) (by omega) hKn.2.1 X.hW.1.1 fun H1 kC hkC x1 x2 x3 => ?_
    refine lv_dup X.hx X.hb dX1_must_7 rfl ?_
    intro T hT XS
    have htr : (ke K).platform.stackTraces = false := by
      rw [XS.admits.platform]
      show (kl K).stackTraces = false
      unfold Launch.stackTraces
      rw [X.hfl]
      decide +kernel
    obtain ⟨U, s1, s2, s3, s4, s5, ce, s6, s7⟩ := XS.ctorThrow0 X.hx htr X.hown (cls := "java/util/NoSuchElementException") (names := ["java/lang/RuntimeException", "java/lang/Exception"]) (by decide +kernel) (by decide +kernel) (must_ws X.hts X.hW.2.2.1 X.hW.2.2.2.2.2.2.2.2.2.2.2.2.1 X.hW.2.2.2.2.2.2.2.2.2.2.2.2.2) (fun x hx => by cases hx) hKn.2.1 hkC (by rw [hT]; exact x1) (Nat.le_of_eq X.hW.1.1) (g := F0 (km K) 8 ls [.ref (kh0 K).2.1, .ref (kh0 K).2.1]) rfl (by rw [X.hml]; exact hl.1) rfl rfl (rest := []) rfl (by rw [X.hb]; exact dX1_must_8) (by rw [X.hb]; exact dX1_must_11) (gOut hex 11) (by rw [r1]; decide) (by rw [r2]; exact Nat.le_of_ble_eq_true rfl) X.hlk
    have hsz : U.heap.size = (kh0 K).2.1 + 1 := by
      have a1 := s5.2.2.1
      have a2 := (Array.getElem?_eq_some_iff.mp s6).1
      have a3 := X.hW.1.1
      have a1 : U.heap.size ≤ (ks K).heap.size + (0 + 1) := a1
      omega
    have hold : ∀ q : Nat, q < (kh0 K).2.1 → U.heap[q]? = (ks K).heap[q]? := by
      intro q hq
      have hq2 : q < (ks K).heap.size := by rw [X.hW.1.1]; exact hq
      have e := Array.getElem?_eq_getElem hq2
      rw [e]
      exact s5.old_cell e
    have hgl : (kG K).1 ≤ (kh0 K).2.1 := X.hW.1.2.1
    refine ⟨U, s1, s2, by rw [ho]; exact s3, ⟨rfl, ⟨?_, va_K.moved s4.alike X.hW.2.1, gN.warm s4 X.hW.2.2.1, gOd.warm s4 (X.hW.2.2.2.kept (fun q q1 q2 => hold q (by rw [← X.hW.1.1]; exact q1)))⟩, fun q hq => hold q (by omega)⟩, s4, [], ?_, fun q hq => by cases hq⟩
    · rw [hh]
      exact X.hW.1.pushN (Or.inr ⟨rfl, ce, s6, by rw [s7.vm]; rfl, Option.some.inj (s7.cls.symm.trans hKn.2.1)⟩) hsz hold
    · have e1 : (kh1 K).2.1 - (kh0 K).2.1 = 0 + 1 := by rw [hh]; show (kh0 K).2.1 + 1 - (kh0 K).2.1 = 0 + 1; omega
      have e2 : (kh1 K).2.2 - (kh0 K).2.2 = 0 + 6 := by rw [hh]; show (kh0 K).2.2 + 6 - (kh0 K).2.2 = 0 + 6; omega
      rw [e1, e2]
      exact s5
