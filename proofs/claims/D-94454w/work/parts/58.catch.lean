set_option maxRecDepth 100000
/-! ===== methods with handlers ===== -/
section
variable {p : Program} {l : Launch} {e : Env} {R : Room} {s : State} {m : MethodId} {sargs : Array Value} {below : List Frame} {meth : Method} {c : Code} {U : State} {locs : List Loc} {cells slots : Nat} {hh : List (Nat × Nat × Nat × Nat)}
theorem gBackW {y : MethodName} {ws : List Cond} {rm : Room} {Pc : Array Value → State → Prop} {Qc : Array Value → State → Outcome → State → Prop} {mc ms : Nat} {free : Addr → Prop} {bytes : ByteArray} {maxL : Nat} {ret : Option FieldType} {len : Nat}
    (hM : MetX l y ws rm Pc Qc mc ms free) (hblind : FrameBlind Pc) (hrc : rm.cells = mc) (hrs : rm.slots = ms) (hframes : rm.frames + 1 ≤ R.frames) (hlocals : 8 + (maxL + 11) + rm.locals ≤ R.locals)
    (hws : ∀ w ∈ ws, ∀ (a' : Array Value) (U : State), s.WarmedH U.vm → w.before a' U = true) (h2 : ∀ (a' : Array Value) (U : State), s.WarmedH U.vm → (Cond.codeWith y bytes maxL ret hh).before a' U = true) (h3 : ∀ (a' : Array Value) (U : State), s.WarmedH U.vm → (Cond.initialized y.cls).before a' U = true)
    (X : Stand p l e R s m sargs below meth c U locs cells slots) {g : JFrame} {ig : Instr} {mk : MethodId} {a : Array Value} (hg : g.method = m) (hsize : g.locals.size = c.maxLocals) (hdg : decode c.code g.pc = .ok (ig, len)) (hW : 2 * g.monitorRoom + (g.stack.map fun v => v.category).sum ≤ 8) (hn : U.methodNamed? y = some mk) (h4 : cells + mc ≤ R.cells) (h5 : slots + ms ≤ R.slots) (hp : Pc a U) :
    ∃ (o : Outcome) (t T' : State) (L : List Loc), T'.heap = t.heap ∧ T'.vm = t.vm ∧ Stand p l e R s m sargs below meth c T' (locs ++ L) (cells + mc) (slots + ms) ∧ (∀ q ∈ L, free q.base) ∧ (∃ st₀ : State, st₀.heap = U.heap ∧ Qc a st₀ o t) ∧
      ((∃ v, o = .returned v ∧ Steps p.tables e below (doInvoke e (U.setTop g) [] mk a).1 (T'.setTop { g with pc := g.pc + len, stack := v.toList ++ g.stack })) ∨
       (∃ b, o = .threw b ∧ Steps p.tables e below (doInvoke e (U.setTop g) [] mk a).1 ((T'.setTop g).pushFrame (.throwing b)))) := by
  have h1 : (headSpec ws rm).pre.before a U = true := atoms_intro fun w hw => hws w hw _ _ X.warmed
  obtain ⟨mY, methY, cY, hnY, hmY, hcY, -, hlY, -, -, -, -⟩ := Cond.codeWith_spec (h2 a U X.warmed)
  cases hn.symm.trans hnY
  obtain ⟨kY, hkY, -⟩ := className_of_methodNamed hn
  have hinitY : kY.init = .initialized := Cond.initialized_spec (findClass_of_methodNamed hn) hkY (h3 a U X.warmed)
  have h : At U g.method c below := by rw [hg]; exact X.here
  have happ : (headSpec ws rm).appliesLoose y e.platform (U.calling g mk a) = true :=
    Spec.appliesLoose_calling (g := g) h hdg hn hkY hinitY
      (X.room_calling (g := g) (R' := (headSpec ws rm).room) hsize hmY hcY hframes (by rw [hlY]; show _ ≤ _; have : (headSpec ws rm).room.locals = rm.locals := rfl; omega) (by show cells + rm.cells ≤ _; omega) (by show slots + rm.slots ≤ _; omega)) h1
  obtain ⟨mid, hmid⟩ := h.above
  have hfr : (U.setTop g).frames = (.java g :: mid) ++ below := by rw [State.frames_setTop' g h.top, hmid]; rfl
  obtain ⟨o, s₂, hsteps, -, hend, hq⟩ := Steps.callFree hM p X.admits X.cas X.clock (acts := []) hfr happ (hblind _ _ _ _ hp) trivial
  have hq' : Qc a (U.calling g mk a) o s₂ ∧ ∃ L, gFE (U.calling g mk a) s₂ L mc ms ∧ ∀ q ∈ L, free q.base := hq
  rw [State.frames_setTop' g h.top] at hend
  obtain ⟨hQ, L, hfe, hL⟩ := hq'
  obtain ⟨hW₂, e2, q2, q3, q4, q5, q6⟩ := id hfe
  have e3 : s₂ = ({ (U.calling g mk a).setFrames s₂.frames with heap := s₂.heap, slotsUsed := s₂.slotsUsed } : State).setVm s₂.vm := by
    have : s₂ = ({ s₂ with vm := (U.calling g mk a).vm } : State).setVm s₂.vm := rfl
    rw [e2] at this
    exact this
  have hW' : U.WarmedH s₂.vm := hW₂
  obtain ⟨g₀, hg0⟩ := Option.isSome_iff_exists.mp h.top
  obtain ⟨r, hr⟩ := State.topJava?_eq_some.mp hg0
  have hr' : (({ U with heap := s₂.heap, slotsUsed := s₂.slotsUsed } : State).setVm s₂.vm).frames = .java g₀ :: r := hr
  have hsame : U.sameButNew ({ U with heap := s₂.heap, slotsUsed := s₂.slotsUsed } : State) L mc ms := by
    refine ⟨?_, q2, q3, q4, q5, q6⟩
    obtain ⟨t, ht, -⟩ := State.frames_cons hr
    show ({ U with heap := s₂.heap, slotsUsed := s₂.slotsUsed } : State) = { U.setFrames U.frames with heap := s₂.heap, slotsUsed := s₂.slotsUsed }
    rw [State.setFrames_self ht]
  subst hg
  refine ⟨o, s₂, (({ U with heap := s₂.heap, slotsUsed := s₂.slotsUsed } : State).setVm s₂.vm), L, rfl, rfl,
    ⟨X.admits, X.cas, X.clock, X.frames, X.room, X.hears, X.method, X.code, (X.here.setHeapUsed s₂.heap s₂.slotsUsed).setVm hW'.alike, X.tail, State.WarmedH.trans X.warmed hW', X.limits, X.bytes, X.same.trans (hsame.setVm s.vm)⟩,
    hL, ⟨_, by simp [State.calling, State.pushFrame, State.setFrames, State.setTop, State.modifyTopJava], hQ⟩, ?_⟩
  cases o with
  | returned v =>
    left
    obtain ⟨c₂, i₂, len₂, hc₂, hd₂, hf₂⟩ := hend
    have hcc : c₂ = c := by
      have h1 : s₂.code? g.method = U.code? g.method := by
        rw [State.code?_eq, State.code?_eq, hW'.alike.method?]
      exact Option.some.inj (hc₂.symm.trans (h1.trans h.code))
    subst hcc
    have hlen : len₂ = len := by rw [hdg] at hd₂; cases hd₂; rfl
    subst hlen
    refine ⟨v, rfl, ?_⟩
    have hs₂ : s₂ = (({ U with heap := s₂.heap, slotsUsed := s₂.slotsUsed } : State).setVm s₂.vm).setTop { g with pc := g.pc + len₂, stack := v.toList ++ g.stack } := by
      refine e3.trans ?_
      rw [hf₂, State.calling_eq h.top, State.setFrames_setFrames, State.setTop_of_frames _ hr', hr]
      rfl
    rw [← hs₂]
    exact hsteps
  | threw b =>
    right
    refine ⟨b, rfl, ?_⟩
    have hf₂ : s₂.frames = .throwing b :: (.java g :: U.frames.tail) := hend
    have hs₂ : s₂ = ((({ U with heap := s₂.heap, slotsUsed := s₂.slotsUsed } : State).setVm s₂.vm).setTop g).pushFrame (.throwing b) := by
      refine e3.trans ?_
      rw [hf₂, State.calling_eq h.top, State.setFrames_setFrames, State.setTop_of_frames _ hr', hr]
      have hcur : (({ U with heap := s₂.heap, slotsUsed := s₂.slotsUsed } : State).setVm s₂.vm).cur < (({ U with heap := s₂.heap, slotsUsed := s₂.slotsUsed } : State).setVm s₂.vm).threads.size := State.cur_lt_of_frames hr'
      show _ = ((({ U with heap := s₂.heap, slotsUsed := s₂.slotsUsed } : State).setVm s₂.vm).setFrames (Frame.java g :: r)).setFrames (.throwing b :: ((({ U with heap := s₂.heap, slotsUsed := s₂.slotsUsed } : State).setVm s₂.vm).setFrames (Frame.java g :: r)).frames)
      rw [State.setFrames_setFrames, State.frames_setFrames _ hcur]
      rfl
    rw [← hs₂]
    exact hsteps

end
/-- the contract of a method that has handlers, and returns -/
def gCtW (G : gG) (y : MethodName) (cc : ByteArray) (nL : Nat) (ret : Option FieldType) (hh : List (Nat × Nat × Nat × Nat)) (fr lo : Nat) (av : List Value) {α : Type} (f : Mo α) (ov : α → Option Value) : Prop :=
  ∀ l : Launch, l.flags = flags0 → ∀ (h : gH) (r : α) (h' : gH), f.1 h = some (r, h') →
    MetX l y (wsW_ y cc nL ret hh) ({ frames := fr, cells := h'.2.1 - h.2.1, slots := h'.2.2 - h.2.2, locals := lo }) (va_Pc av (gW G h)) (gQc G (.returned (ov r)) h') (h'.2.1 - h.2.1) (h'.2.2 - h.2.2) (gY G)
theorem gCtW.of {G : gG} {y : MethodName} {cc : ByteArray} {nL : Nat} {ret : Option FieldType} {hh : List (Nat × Nat × Nat × Nat)} {fr lo : Nat} {av : List Value} {α : Type} {f : Mo α} {ov : α → Option Value} (hy : plainName y.cls = true) (hlen : (lg_sl av).length ≤ nL)
    (body : ∀ (K : gK) (r : α), kG K = G → gX K cc nL y.cls y.name ret fr lo → (kc K).exceptionTable.toList = tableOf hh → f.1 (kh0 K) = some (r, kh1 K) → ko K = .returned (ov r) → V K nL (kh0 K) 0 (lv_args 0 av) []) : gCtW G y cc nL ret hh fr lo av f ov := by
  intro l hfl h r h' hf
  refine MetFree.of_bodyS (code := cc) (maxLocals := nL) (ret := ret) hy ?_ ?_
  · intro args s m h hn
    obtain ⟨m2, meth, c, hn2, h1, h2, h3, h4, -, h5, h6, -⟩ := Cond.codeWith_spec (atoms_spec (ws := wsW_ y cc nL ret hh) h _ List.mem_cons_self)
    cases hn.symm.trans hn2
    exact ⟨meth, c, h1, h2, h3, h4, h5, h6⟩
  · intro p e s m args below meth c s₁ B hml hv _
    have hh0 : s₁.heap = s.heap := by rw [B.state]; rfl
    obtain ⟨rfl, hw⟩ := hv
    have hle := f.2 _ _ _ hf
    have hts0 := atoms_spec (ws := wsW_ y cc nL ret hh) B.pre
    have hts : ∀ w ∈ lw_all, w.before _ s = true := fun w h => hts0 w (List.mem_cons_of_mem _ h)
    let K : gK := (p, l, e, (headSpec (wsW_ y cc nL ret hh) ({ frames := fr, cells := h'.2.1 - h.2.1, slots := h'.2.2 - h.2.2, locals := lo })).room, s, m, av.toArray, below, meth, c, G, h, .returned (ov r), h')
    have X : gX K cc nL y.cls y.name ret fr lo := by
      refine ⟨B.exec, B.bytes, hml, findClass_of_methodNamed B.named, hts, B.notSynchronized, B.returns, (name_of_methodNamed B.named B.method).1, hw, ⟨rfl, rfl, ?_, ?_⟩, hfl⟩
      · show h'.2.1 - h.2.1 + h.2.1 = h'.2.1
        exact Nat.sub_add_cancel hle.1
      · show h'.2.2 - h.2.2 + h.2.2 = h'.2.2
        exact Nat.sub_add_cancel hle.2
    have X₀ := Stand.of_body B
    have hex : (kc K).exceptionTable.toList = tableOf hh := by
      obtain ⟨m2, meth', c', gn, g1, g2, -, -, g3, -, -, -⟩ := Cond.codeWith_spec (hts0 _ List.mem_cons_self)
      cases B.named.symm.trans gn
      cases X₀.method.symm.trans g1
      cases X₀.code.symm.trans g2
      rw [← g3, table_eq]
    have hV := body K r rfl X hex hf rfl
    have hl := lv_entry av (n := nL) hlen
    rw [lg_entry_eq]
    have hw1 : W p l e (headSpec (wsW_ y cc nL ret hh) ({ frames := fr, cells := h'.2.1 - h.2.1, slots := h'.2.2 - h.2.2, locals := lo })).room s m av.toArray below meth c s.heap [] 0 0 (gMQ K) (F0 m 0 _ []) :=
      hV _ hl s.heap [] 0 0 ⟨hw.1, va_S.rf, Nat.zero_add _, Nat.zero_add _⟩
    obtain ⟨t, a1, b1, b2, b3, b4, L, b5, b6⟩ := hw1 s₁ hh0 X₀
    exact ⟨t, _, a1, b1, b2, b3, L, ⟨b4, b5⟩, b6⟩

section
variable {p : Program} {l : Launch} {e : Env} {R : Room} {s : State} {m : MethodId} {args : Array Value} {below : List Frame} {meth : Method} {c : Code} {T : State} {locs : List Loc} {cells slots : Nat} {hh : List (Nat × Nat × Nat × Nat)}
theorem gEntVW (X : Stand p l e R s m args below meth c T locs cells slots) (hexec : p.tables.exec = Jvm.exec) {own C : String} {index : Nat} {y : MethodName} {bytes : ByteArray} {maxL : Nat} {ret : Option FieldType}
    (hown : s.vm.findClass own = some m.cls) (hlink : (Cond.methodLink own index y).before args s = true) (hinst : (Cond.instanceMethod y).before args s = true) (hsel : (Cond.selects C y y).before args s = true)
    (hcode : (Cond.codeWith y bytes maxL ret hh).before args s = true) (hy : y.cls ≠ "java/lang/invoke/MethodHandle" ∧ y.cls ≠ "java/lang/invoke/VarHandle")
    {b : Addr} {cellB : Cell} (hcell : T.heap[b]? = some cellB) (hobj : cellB.vm.isStatics = false) (hcls : s.vm.findClass C = some cellB.cls)
    {g : JFrame} (hg : g.method = m) {argsL rest : List Value} (hlen : ∀ sig, parseMethodDescriptor y.desc = some sig → argsL.length = sig.parameters.length)
    (hstack : g.stack = argsL.reverse ++ .ref b :: rest) (hdg : decode c.code g.pc = .ok (.invokevirtual index, 3)) : gEnt p l e R s m args below meth c T locs cells slots g rest y (Value.ref b :: argsL).toArray := by
  obtain ⟨mk, methM, hnamed, hmethM, hstM, habM⟩ := Cond.instanceMethod_spec hinst
  obtain ⟨mM', methM', cM, hnM', hmethM', -, -, -, -, -, -, hsigM⟩ := Cond.codeWith_spec hcode
  cases hnamed.symm.trans hnM'
  cases hmethM.symm.trans hmethM'
  obtain ⟨c2, r2, m2, q1, q2, q3, q4, kP, hkP, hkPi⟩ := Cond.selects_spec hsel
  cases hcls.symm.trans q1
  cases (State.methodFound?_of_named hnamed hy).symm.trans q2
  cases hnamed.symm.trans q3
  have hselP : selectMethod e.platform s.vm cellB.cls mk = .method mk := by rw [Launch.admits_selectMethod X.admits]; exact q4
  obtain ⟨vm₁, X₁, hstep₁⟩ := X.invokevirtual hexec hown hlink hnamed hmethM hstM hkP hkPi hy (a := b) (cell := cellB) hcell
    (fun z h => by rw [h] at hobj; cases hobj) hselP hmethM habM hkP hkPi (g := g) hg (argsL := argsL) (rest := rest) (hlen _ hsigM) hstack hdg
  exact ⟨vm₁, mk, X₁.warmed, X₁, X₁.named hnamed, fun target h => hstep₁ _ fun acts => by rw [doInvoke_state]; exact h⟩

theorem gEntSW (X : Stand p l e R s m args below meth c T locs cells slots) (hexec : p.tables.exec = Jvm.exec) {own : String} {index : Nat} {y : MethodName} {bytes : ByteArray} {maxL : Nat} {ret : Option FieldType}
    (hown : s.vm.findClass own = some m.cls) (hlink : (Cond.methodLink own index y).before args s = true) (hstat : (Cond.static y).before args s = true) (hinit : (Cond.initialized y.cls).before args s = true)
    (hcode : (Cond.codeWith y bytes maxL ret hh).before args s = true) (hy : y.cls ≠ "java/lang/invoke/MethodHandle" ∧ y.cls ≠ "java/lang/invoke/VarHandle")
    {g : JFrame} (hg : g.method = m) {argsL rest : List Value} (hlen : ∀ sig, parseMethodDescriptor y.desc = some sig → argsL.length = sig.parameters.length)
    (hstack : g.stack = argsL.reverse ++ rest) (hdg : decode c.code g.pc = .ok (.invokestatic index, 3)) : gEnt p l e R s m args below meth c T locs cells slots g rest y argsL.toArray := by
  obtain ⟨mk, methM, cM, hnamed, hmethM, -, -, -, -, -, -, hsigM⟩ := Cond.codeWith_spec hcode
  have hstatic : methM.isStatic = true := Cond.static_spec hnamed hmethM hstat
  obtain ⟨kP, hkP, -⟩ := className_of_methodNamed hnamed
  have hinitP : kP.init = .initialized := Cond.initialized_spec (findClass_of_methodNamed hnamed) hkP hinit
  obtain ⟨vm₁, X₁, hstep₁⟩ := X.invokestatic hexec hown hlink hnamed hmethM hstatic hkP hinitP hy (g := g) hg (argsL := argsL) (rest := rest) (hlen _ hsigM) hstack hdg
  exact ⟨vm₁, mk, X₁.warmed, X₁, X₁.named hnamed, fun target h => hstep₁ _ fun acts => by rw [doInvoke_state]; exact h⟩

end
section
variable {K : gK} {cc : ByteArray} {nL : Nat} {own nm : String} {ret : Option FieldType} {fr lo : Nat} {h : gH} {pc : Nat} {lv : List (Nat × Value)} {st : List Value} {β : Type} {r : β} {h' : gH} {hh : List (Nat × Nat × Nat × Nat)}
variable {α : Type} {f : Mo α} {g : α → Mo β} {y : MethodName} {cy : ByteArray} {nLy fry loy : Nat} {rety : Option FieldType} {av : List Value} {ov : α → Option Value}
theorem v_backW (X : gX K cc nL own nm ret fr lo) (hd : (Mo.bind f g).1 h = some (r, h')) (hle : gLe h' (kh1 K)) (ct : gCtW (kG K) y cy nLy rety hh fry loy av f ov) (hc : Cond.codeWith y cy nLy rety hh ∈ lw_all) (hi : Cond.initialized y.cls ∈ lw_all) (hR : fry + 1 ≤ fr ∧ 8 + (nLy + 11) + loy ≤ lo) {st0 : List Value} {ig : Instr} (hdg : decode cc pc = .ok (ig, 3)) (hW8 : (st.map fun v => v.category).sum ≤ 8)
    (hent : ∀ (ls : Array Slot) (H : Heap) (locs : List Loc) (cells slots : Nat) (T : State) (b : α) (h1 : gH), gRp K h H locs cells slots → f.1 h = some (b, h1) → T.heap = H → Stand (kp K) (kl K) (ke K) (kR K) (ks K) (km K) (ka K) (kb K) (kt K) (kc K) T locs cells slots → gEnt (kp K) (kl K) (ke K) (kR K) (ks K) (km K) (ka K) (kb K) (kt K) (kc K) T locs cells slots (F0 (km K) pc ls st0) st y av.toArray)
    (kk : ∀ (x : α) (h1 : gH), (g x).1 h1 = some (r, h') → V K nL h1 (pc + 3) lv ((ov x).toList ++ st)) : V K nL h pc lv st0 := by
  intro ls hl H locs cells slots rp T hT XS
  obtain ⟨b, h1, e1, e2⟩ := Mo.bind_some hd
  have l1 := f.2 _ _ _ e1
  have l2 := ((g b).2 _ _ _ e2).tr hle
  have hrm := gRp_room X (h2 := h1) (n := h1.2.1 - h.2.1) (k := h1.2.2 - h.2.2) rp (by have := l1.1; omega) (by have := l1.2; omega) l2
  obtain ⟨vm₁, mk, hW₁, X₁, hnm, hstep⟩ := hent ls H locs cells slots T b h1 rp e1 hT XS
  have hgood := lw_methW hc
  have hws := pay_in X.hts hgood
  obtain ⟨o, t, T', L, z1, z2, X', hL, ⟨st₀, z3, z4⟩, hrun⟩ := gBackW (bytes := cy) (maxL := nLy) (ret := rety) (len := 3) (ct (kl K) X.hfl h b h1 e1) gW_blind rfl rfl (by rw [X.hR.1]; exact hR.1) (by rw [X.hR.2.1]; exact hR.2) hws (hws _ List.mem_cons_self) (fun a' U hW => word_at hW (Or.inl (by first | rfl | simp [Cond.onTables, Cond.keeps, Cond.steady])) (X.hts _ hi)) X₁
    (g := { F0 (km K) pc ls st0 with stack := st }) (ig := ig) (mk := mk) (a := av.toArray) rfl (by rw [X.hml]; exact hl.1) (by rw [X.hb]; exact hdg) (by show 2 * 0 + (st.map fun v => v.category).sum ≤ 8; omega) hnm hrm.1 hrm.2 ⟨rfl, (gW_end X rp (t := T.setVm vm₁) hT hW₁).1⟩
  obtain ⟨z5, z6, z7⟩ := z4
  have z3 : st₀.heap = H := z3.trans hT
  have hsz : (kG K).1 ≤ (ks K).heap.size := by rw [X.hW.1.1]; exact X.hW.1.2.1
  have rp' : gRp K h1 T'.heap (locs ++ L) (cells + (h1.2.1 - h.2.1)) (slots + (h1.2.2 - h.2.2)) := by
    rw [z1]
    refine ⟨z6.1, ⟨?_, fun q q1 q2 => ?_, fun q hq => ?_⟩, ?_, ?_⟩
    · have a1 := rp.2.1.1; have a2 := rp.1.1; have a3 := z6.1.1; have a4 := l1.1; omega
    · have q3 : q < (kG K).1 := Nat.lt_of_not_le q2
      rw [z7 q q3, z3]
      exact rp.2.1.2.1 q q1 q2
    · rcases List.mem_append.mp hq with m | m
      · exact rp.2.1.2.2 q m
      · exact hL q m
    · have a1 := rp.2.2.1; have a4 := l1.1; omega
    · have a1 := rp.2.2.2; have a4 := l1.2; omega
  rcases hrun with ⟨v, hv, hs⟩ | ⟨b2, hv, hs⟩
  · rw [hv] at z5
    cases z5
    obtain ⟨t2, a1, b1⟩ := kk b h1 e2 ls hl T'.heap (locs ++ L) _ _ rp' T' rfl X'
    exact ⟨t2, hstep t2 (hs.trans a1), b1⟩
  · rw [hv] at z5
    cases z5

theorem v_callVW (X : gX K cc nL own nm ret fr lo) {b0 ci : Nat} {As : List Value} {f0 : Unit → Mo α} (hd : (Mo.bind (Mo.bind (chk [ci] b0) f0) g).1 h = some (r, h')) (hle : gLe h' (kh1 K)) (ct : gCtW (kG K) y cy nLy rety hh fry loy (.ref b0 :: As) (Mo.bind (chk [ci] b0) f0) ov) {index n : Nat} {rr : vw_C} (hci : gCl[ci]? = some rr) (q1 : Cond.methodLink own index y ∈ lw_all) (q2 : Cond.instanceMethod y ∈ lw_all) (q3 : Cond.selects rr.1 y y ∈ lw_all) (q4 : Cond.initialized y.cls ∈ lw_all) (q5 : Cond.codeWith y cy nLy rety hh ∈ lw_all) (hdn : y.cls ≠ "java/lang/invoke/MethodHandle" ∧ y.cls ≠ "java/lang/invoke/VarHandle" ∧ (parseMethodDescriptor y.desc).map (fun d => d.parameters.length) = some n) (hn : As.length = n)
    (hR : fry + 1 ≤ fr ∧ 8 + (nLy + 11) + loy ≤ lo) {st0 : List Value} (hst : st0 = As.reverse ++ .ref b0 :: st) (hW8 : (st.map fun v => v.category).sum ≤ 8) (hdg : decode cc pc = .ok (.invokevirtual index, 3))
    (kk : ∀ (x : α) (h1 : gH), (g x).1 h1 = some (r, h') → V K nL h1 (pc + 3) lv ((ov x).toList ++ st)) : V K nL h pc lv st0 := by
  refine v_backW X hd hle ct q5 q4 hR hdg hW8 (fun ls H locs cells slots T b h1 rp e1 hT XS => ?_) kk
  obtain ⟨⟨o, e3, e4⟩, -⟩ := chk_some e1
  obtain ⟨cell, c1, c2, c3⟩ := gRecv X rp.1 hci e3 (by simpa using e4)
  exact gEntVW XS X.hx X.hown (X.hts _ q1) (X.hts _ q2) (X.hts _ q3) (X.hts _ q5) ⟨hdn.1, hdn.2.1⟩ (by rw [hT]; exact c1) c2 c3 rfl (dn_len hdn.2.2 hn) hst (by rw [X.hb]; exact hdg)

theorem v_callSW (X : gX K cc nL own nm ret fr lo) {av : List Value} (hd : (Mo.bind f g).1 h = some (r, h')) (hle : gLe h' (kh1 K)) (ct : gCtW (kG K) y cy nLy rety hh fry loy av f ov) {index n : Nat} (q1 : Cond.methodLink own index y ∈ lw_all) (q2 : Cond.static y ∈ lw_all) (q4 : Cond.initialized y.cls ∈ lw_all) (q5 : Cond.codeWith y cy nLy rety hh ∈ lw_all) (hdn : y.cls ≠ "java/lang/invoke/MethodHandle" ∧ y.cls ≠ "java/lang/invoke/VarHandle" ∧ (parseMethodDescriptor y.desc).map (fun d => d.parameters.length) = some n) (hn : av.length = n)
    (hR : fry + 1 ≤ fr ∧ 8 + (nLy + 11) + loy ≤ lo) {st0 : List Value} (hst : st0 = av.reverse ++ st) (hW8 : (st.map fun v => v.category).sum ≤ 8) (hdg : decode cc pc = .ok (.invokestatic index, 3))
    (kk : ∀ (x : α) (h1 : gH), (g x).1 h1 = some (r, h') → V K nL h1 (pc + 3) lv ((ov x).toList ++ st)) : V K nL h pc lv st0 := by
  refine v_backW X hd hle ct q5 q4 hR hdg hW8 (fun ls H locs cells slots T b h1 rp e1 hT XS => ?_) kk
  exact gEntSW XS X.hx X.hown (X.hts _ q1) (X.hts _ q2) (X.hts _ q4) (X.hts _ q5) ⟨hdn.1, hdn.2.1⟩ rfl (dn_len hdn.2.2 hn) hst (by rw [X.hb]; exact hdg)

end
/-! ===== catching: the catch's class may be resolved there and then ===== -/
section
variable {E : CtlPost} {e : Env} {d : Bool} {acts : List Action} {s : State} {f : JFrame} {a : Addr} {Q : Handler → Pre}
theorem gGoCold {x : ExceptionTableEntry} {t : List ExceptionTableEntry} {c : ClassId} {cell : Cell} {vm' : Vm} (hx : covers x f.pc = true) (h0 : x.catchType ≠ 0)
    (hg : (Jvm.resolveClass f.method.cls x.catchType).Gives e.toSetting s.vm (.ok c) vm') (hsz : vm'.classes.size ≤ s.vm.classes.size) (hcell : s.heap[a]? = some cell) (hobj : ∀ k, cell.vm ≠ .statics k)
    (hk : ∃ k, vm'.classes[cell.cls]? = some k) (hc : ∃ k, vm'.classes[c]? = some k) (hfit : vm'.assignable cell.cls c = true) :
    wp (findHandler.go f a (x :: t)) Q E e d acts s ↔ Q (.found x.handlerPc) d acts (s.setVm vm') := by
  simp only [covers] at hx
  obtain ⟨ha, ht⟩ := hg.op (op := VmOp.resolveClass f.method.cls x.catchType) rfl
  simp [findHandler.go, hx, h0, ha, ht, hsz, hcell, hobj, hk, hc, hfit, VmOp.dirties, VmOp.acts]
theorem gStepCatch {r : List Frame} {pc : Nat} {vm' : Vm} (hfind : ∀ (Q : Handler → Pre) (E : CtlPost) (d : Bool) (acts : List Action), wp (findHandler f a) Q E e d acts s ↔ Q (.found pc) d acts (s.setVm vm')) :
    (stepThrowing e s a (.java f :: r)).Is ((s.setVm vm').setFrames (.java { f with pc := pc, stack := [.ref a] } :: r)) [] := by
  simp only [stepThrowing, searchFrame, vmDo]
  generalize hr : Sem.go _ e false [] s = res
  obtain ⟨as, rfl, ha⟩ := Sem.eq_ok_of hr (a := Handler.found pc) (s' := s.setVm vm') (acts' := []) (by simp [hfind _ _ _ _])
  exact ⟨rfl, ha⟩
theorem gCaught {tb : Tables} {target : State} {g : JFrame} {c : Code} {below : List Frame} (h : At s g.method c below) {pc : Nat} {vm' : Vm}
    (hfind : ∀ (Q : Handler → Pre) (E : CtlPost) (d : Bool) (acts : List Action), wp (findHandler g a) Q E e d acts ((s.setTop g).pushFrame (.throwing a)) ↔ Q (.found pc) d acts (((s.setTop g).pushFrame (.throwing a)).setVm vm'))
    (hrest : Steps tb e below ((s.setVm vm').setTop { g with pc := pc, stack := [.ref a] }) target) :
    Steps tb e below ((s.setTop g).pushFrame (.throwing a)) target := by
  obtain ⟨hgo, hw⟩ := h.throwing a
  refine Steps.head hgo hw ?_
  rw [stepThread_throwing (frames_entered h.top _), (gStepCatch (s := (s.setTop g).pushFrame (.throwing a)) hfind).1]
  obtain ⟨g₀, hg⟩ := Option.isSome_iff_exists.mp h.top
  obtain ⟨r, hr⟩ := State.topJava?_eq_some.mp hg
  have hr' : (s.setVm vm').frames = .java g₀ :: r := hr
  rw [State.setTop_of_frames _ hr'] at hrest
  rw [State.pushFrame, State.setTop_of_frames _ hr, State.setFrames_setFrames]
  have e1 : ((s.setFrames (.throwing a :: (s.setFrames (.java g :: r)).frames)).setVm vm').setFrames (.java { g with pc := pc, stack := [.ref a] } :: s.frames.tail) = (s.setVm vm').setFrames (.java { g with pc := pc, stack := [.ref a] } :: r) := by
    show (((s.setVm vm').setFrames _)).setFrames _ = _
    rw [State.setFrames_setFrames, hr]
    rfl
  rw [e1]
  exact hrest
end
section
variable {K : gK} {cc : ByteArray} {nL : Nat} {own nm : String} {ret : Option FieldType} {fr lo : Nat} {h : gH} {pc : Nat} {lv : List (Nat × Value)} {st : List Value}
theorem vx_catch (X : gX K cc nL own nm ret fr lo) {s0 e0 hp ct : Nat} (hex : (kc K).exceptionTable.toList = tableOf [(s0, e0, hp, ct)]) (hcov : s0 ≤ pc ∧ pc < e0) (hct : ct ≠ 0) {C : String} (hlink : Cond.classLink own ct C ∈ lw_all) {b : Nat}
    (hcell : ∀ H : Heap, gP (kG K) h H → ∃ cell : Cell, H[b]? = some cell ∧ cell.vm.isStatics = false ∧ (ks K).vm.findClass C = some cell.cls) (k : V K nL h hp lv [.ref b]) : VX K nL h pc lv st b := by
  intro ls hl H locs cells slots rp T hT XS
  obtain ⟨cell, c1, c2, c3⟩ := hcell H rp.1
  have hpl : (ke K).platform.magicAccessors = ({} : Platform).magicAccessors := by rw [XS.admits.platform]
  obtain ⟨c', hc', hcl⟩ := Cond.classLink_spec X.hown (X.hts _ hlink) (ke K).platform hpl
  cases c3.symm.trans hc'
  obtain ⟨dk, _, _, kt0, hd, _, _, _, _, hkt, _, hopen⟩ := hcl.here
  have hcl₀ := XS.warmed.classLinks hcl
  have hW' : (ks K).WarmedH (T.vm.noted (km K).cls ct (.cls cell.cls)) := XS.warmed.noted hd hopen (State.rightAt_cls hcl)
  obtain ⟨kt', hkt', -⟩ := hW'.alike.2.2 _ _ hkt
  have X' := XS.noted hW'
  obtain ⟨t, a1, b1⟩ := k ls hl H locs cells slots rp (T.setVm (T.vm.noted (km K).cls ct (.cls cell.cls))) hT X'
  refine ⟨t, gCaught (g := F0 (km K) pc ls st) XS.here (fun Q E d acts => ?_) a1, b1⟩
  have hm : ((T.setTop (F0 (km K) pc ls st)).pushFrame (.throwing b)).vm.method? (km K) = some (kt K) := by rw [Stand.throwing_vm]; exact XS.method'
  have hh : ((T.setTop (F0 (km K) pc ls st)).pushFrame (.throwing b)).heap[b]? = some cell := by rw [Stand.throwing_heap, hT]; exact c1
  have hv : ((T.setTop (F0 (km K) pc ls st)).pushFrame (.throwing b)).vm = T.vm := Stand.throwing_vm _ _ _
  rw [W.findHandler_eq (f := F0 (km K) pc ls st) (meth := kt K) (code := kc K) hm XS.code, hex]
  refine gGoCold (f := F0 (km K) pc ls st) (x := ⟨s0, e0, hp, ct⟩) (c := cell.cls) (cell := cell) ?_ hct (by rw [hv]; exact resolveClass_links (ke K).toSetting hcl₀) (by rw [hv]; exact Nat.le_of_eq (Vm.size_noted _ _ _ _)) hh (VmData.noStatics_of c2) ⟨kt', hkt'⟩ ⟨kt', hkt'⟩ (va_asg _ _)
  show (decide (s0 ≤ pc) && decide (pc < e0)) = true
  simp [hcov.1, hcov.2]
def isNse (b : Nat) : Mo Unit := Mo.rd fun h => match h.1 b with
  | .inl x => if x.1 = 98 then some () else none
  | .inr _ => none
theorem isNse_some {b : Nat} {β : Type} {r : β} {h' : gH} {f : Unit → Mo β} (hd : (Mo.bind (isNse b) f).1 h = some (r, h')) : ∃ x, h.1 b = .inl x ∧ x.1 = 98 ∧ (f ()).1 h = some (r, h') := by
  obtain ⟨u, h1, e1, e2⟩ := Mo.bind_some hd
  obtain ⟨e3, rfl⟩ := Mo.rd_some e1
  cases hb : h1.1 b with
  | inr o => rw [hb] at e3; cases e3
  | inl x =>
    rw [hb] at e3
    by_cases hx : x.1 = 98
    · exact ⟨x, rfl, hx, e2⟩
    · simp only [if_neg hx] at e3; cases e3
theorem isNse_cell (X : gX K cc nL own nm ret fr lo) {b : Nat} {x : Nat × Nat × ((Nat → Int32) ⊕ (Nat → Int64) ⊕ (Nat → Option Nat))} (e : h.1 b = .inl x) (hx : x.1 = 98) : ∀ H : Heap, gP (kG K) h H → ∃ cell : Cell, H[b]? = some cell ∧ cell.vm.isStatics = false ∧ (ks K).vm.findClass "java/util/NoSuchElementException" = some cell.cls := by
  intro H w
  have hb : (kG K).1 ≤ b ∧ b < h.2.1 := by
    by_cases z : (kG K).1 ≤ b ∧ b < h.2.1
    · exact z
    · have z := w.2.2.2 b z
      rw [e] at z
      unfold gDead at z
      injection z with z
      rw [z] at hx
      exact absurd hx (by decide)
  have hcls := (X.hW.2.1.1 21 _ gCl_J9).2
  have h98 := X.hW.2.2.2.2.2.2.2.2.2.2.2.1
  rcases w.2.2.1 b hb.1 hb.2 with z | ⟨-, cell, z1, z2, z3⟩
  · rw [e] at z
    obtain ⟨k, n, f⟩ := x
    have hx : k = 98 := hx
    subst hx
    have z : H[b]? = some (gCell (kG K) 98 n f) := z
    refine ⟨_, z, ?_, ?_⟩
    · rcases f with f | f | f <;> rfl
    · have e2 : (gCell (kG K) 98 n f).cls = (kG K).2.2.1 98 := by rcases f with f | f | f <;> rfl
      rw [e2, h98]; exact hcls.1
  · exact ⟨cell, z1, z2, by rw [z3]; exact hcls.1⟩
end
