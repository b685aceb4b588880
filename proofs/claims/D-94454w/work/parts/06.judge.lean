set_option maxRecDepth 100000
/-! ===== a method's run against what it computes ===== -/
/-- the walk's fixed things: .. c, G, the heap at its start, how it ends, the heap at its end -/
abbrev gK : Type := Program × Launch × Env × Room × State × MethodId × Array Value × List Frame × Method × Code × gG × gH × Outcome × gH
abbrev kp (K : gK) : Program := K.1
abbrev kl (K : gK) : Launch := K.2.1
abbrev ke (K : gK) : Env := K.2.2.1
abbrev kR (K : gK) : Room := K.2.2.2.1
abbrev ks (K : gK) : State := K.2.2.2.2.1
abbrev km (K : gK) : MethodId := K.2.2.2.2.2.1
abbrev ka (K : gK) : Array Value := K.2.2.2.2.2.2.1
abbrev kb (K : gK) : List Frame := K.2.2.2.2.2.2.2.1
abbrev kt (K : gK) : Method := K.2.2.2.2.2.2.2.2.1
abbrev kc (K : gK) : Code := K.2.2.2.2.2.2.2.2.2.1
abbrev kG (K : gK) : gG := K.2.2.2.2.2.2.2.2.2.2.1
abbrev kh0 (K : gK) : gH := K.2.2.2.2.2.2.2.2.2.2.2.1
abbrev ko (K : gK) : Outcome := K.2.2.2.2.2.2.2.2.2.2.2.2.1
abbrev kh1 (K : gK) : gH := K.2.2.2.2.2.2.2.2.2.2.2.2.2
def gQc (G : gG) (o : Outcome) (h' : gH) : Array Value → State → Outcome → State → Prop := fun _ st oc t => oc = o ∧ gW G h' t ∧ ∀ q : Nat, q < G.1 → t.heap[q]? = st.heap[q]?
/-- the walk's end -/
def gMQ (K : gK) : State → Prop := fun t => t.status = .running ∧ Ended t (kb K) (ko K) ∧ gQc (kG K) (ko K) (kh1 K) (ka K) (ks K) (ko K) t ∧ (ks K).WarmedH t.vm ∧ ∃ L, (ks K).sameButNew ({ t with vm := (ks K).vm } : State) L ((kh1 K).2.1 - (kh0 K).2.1) ((kh1 K).2.2 - (kh0 K).2.2) ∧ ∀ q ∈ L, gY (kG K) q.base
def gRp (K : gK) (h : gH) (H : Heap) (locs : List Loc) (cells slots : Nat) : Prop := gP (kG K) h H ∧ va_S (gY (kG K)) (ks K).heap H locs ∧ cells + (kh0 K).2.1 = h.2.1 ∧ slots + (kh0 K).2.2 = h.2.2
/-- from here the method comes to its end -/
def V (K : gK) (nL : Nat) (h : gH) (pc : Nat) (lv : List (Nat × Value)) (st : List Value) : Prop := ∀ ls : Array Slot, lv_has ls nL lv → ∀ (H : Heap) (locs : List Loc) (cells slots : Nat), gRp K h H locs cells slots → W (kp K) (kl K) (ke K) (kR K) (ks K) (km K) (ka K) (kb K) (kt K) (kc K) H locs cells slots (gMQ K) (F0 (km K) pc ls st)
/-- what the walk may lean on -/
def gX (K : gK) (cc : ByteArray) (nL : Nat) (own nm : String) (ret : Option FieldType) (fr lo : Nat) : Prop :=
  (kp K).tables.exec = Jvm.exec ∧ (kc K).code = cc ∧ (kc K).maxLocals = nL ∧ (ks K).vm.findClass own = some (km K).cls ∧ (∀ w ∈ lw_all, w.before (ka K) (ks K) = true) ∧ (kt K).locks = false ∧ (kt K).sig.returnType = ret ∧ (kt K).name = nm ∧ gW (kG K) (kh0 K) (ks K) ∧
    ((kR K).frames = fr ∧ (kR K).locals = lo ∧ (kR K).cells + (kh0 K).2.1 = (kh1 K).2.1 ∧ (kR K).slots + (kh0 K).2.2 = (kh1 K).2.2) ∧ (kl K).flags = flags0
section
variable {K : gK} {cc : ByteArray} {nL : Nat} {own nm : String} {ret : Option FieldType} {fr lo : Nat}
theorem gX.hx (X : gX K cc nL own nm ret fr lo) : (kp K).tables.exec = Jvm.exec := X.1
theorem gX.hb (X : gX K cc nL own nm ret fr lo) : (kc K).code = cc := X.2.1
theorem gX.hml (X : gX K cc nL own nm ret fr lo) : (kc K).maxLocals = nL := X.2.2.1
theorem gX.hown (X : gX K cc nL own nm ret fr lo) : (ks K).vm.findClass own = some (km K).cls := X.2.2.2.1
theorem gX.hts (X : gX K cc nL own nm ret fr lo) : ∀ w ∈ lw_all, w.before (ka K) (ks K) = true := X.2.2.2.2.1
theorem gX.hlk (X : gX K cc nL own nm ret fr lo) : (kt K).locks = false := X.2.2.2.2.2.1
theorem gX.hret (X : gX K cc nL own nm ret fr lo) : (kt K).sig.returnType = ret := X.2.2.2.2.2.2.1
theorem gX.hnm (X : gX K cc nL own nm ret fr lo) : (kt K).name = nm := X.2.2.2.2.2.2.2.1
theorem gX.hW (X : gX K cc nL own nm ret fr lo) : gW (kG K) (kh0 K) (ks K) := X.2.2.2.2.2.2.2.2.1
theorem gX.hR (X : gX K cc nL own nm ret fr lo) : (kR K).frames = fr ∧ (kR K).locals = lo ∧ (kR K).cells + (kh0 K).2.1 = (kh1 K).2.1 ∧ (kR K).slots + (kh0 K).2.2 = (kh1 K).2.2 := X.2.2.2.2.2.2.2.2.2.1
theorem gX.hfl (X : gX K cc nL own nm ret fr lo) : (kl K).flags = flags0 := X.2.2.2.2.2.2.2.2.2.2
end
/-- the contract: whenever f says what comes, the method comes to that -/
def gCt (G : gG) (y : MethodName) (cc : ByteArray) (nL : Nat) (ret : Option FieldType) (fr lo : Nat) (av : List Value) {α : Type} (f : Mo α) (ov : α → Option Value) : Prop :=
  ∀ l : Launch, l.flags = flags0 → ∀ (h : gH) (r : α) (h' : gH), f.1 h = some (r, h') →
    Met l y (ws_ y cc nL ret) ({ frames := fr, cells := h'.2.1 - h.2.1, slots := h'.2.2 - h.2.2, locals := lo }) (va_Pc av (gW G h)) (gQc G (.returned (ov r)) h') (h'.2.1 - h.2.1) (h'.2.2 - h.2.2) (gY G)
theorem gCt.of {G : gG} {y : MethodName} {cc : ByteArray} {nL : Nat} {ret : Option FieldType} {fr lo : Nat} {av : List Value} {α : Type} {f : Mo α} {ov : α → Option Value} (hy : plainName y.cls = true) (hlen : (lg_sl av).length ≤ nL)
    (body : ∀ (K : gK) (r : α), kG K = G → gX K cc nL y.cls y.name ret fr lo → f.1 (kh0 K) = some (r, kh1 K) → ko K = .returned (ov r) → V K nL (kh0 K) 0 (lv_args 0 av) []) : gCt G y cc nL ret fr lo av f ov := by
  intro l hfl h r h' hf
  refine Met.ofW (cc := cc) (maxL := nL) (ret := ret) hy rfl ?_
  intro p e s m args below meth c s₁ B hml hv
  obtain ⟨rfl, hw⟩ := hv
  have hle := f.2 _ _ _ hf
  have hts := atoms_spec (ws := ws_ y cc nL ret) B.pre
  have hts : ∀ w ∈ lw_all, w.before _ s = true := fun w h => hts w (List.mem_cons_of_mem _ h)
  let K : gK := (p, l, e, (headSpec (ws_ y cc nL ret) ({ frames := fr, cells := h'.2.1 - h.2.1, slots := h'.2.2 - h.2.2, locals := lo })).room, s, m, av.toArray, below, meth, c, G, h, .returned (ov r), h')
  have X : gX K cc nL y.cls y.name ret fr lo := by
    refine ⟨B.exec, B.bytes, hml, findClass_of_methodNamed B.named, hts, B.notSynchronized, B.returns, (name_of_methodNamed B.named B.method).1, hw, ⟨rfl, rfl, ?_, ?_⟩, hfl⟩
    · show h'.2.1 - h.2.1 + h.2.1 = h'.2.1
      exact Nat.sub_add_cancel hle.1
    · show h'.2.2 - h.2.2 + h.2.2 = h'.2.2
      exact Nat.sub_add_cancel hle.2
  have hV := body K r rfl X hf rfl
  have hl := lv_entry av (n := nL) hlen
  rw [lg_entry_eq]
  have hG0 : G.1 ≤ s.heap.size := by rw [hw.1.1]; exact hw.1.2.1
  have hw1 : W p l e (headSpec (ws_ y cc nL ret) ({ frames := fr, cells := h'.2.1 - h.2.1, slots := h'.2.2 - h.2.2, locals := lo })).room s m av.toArray below meth c s.heap [] 0 0 (gMQ K) (F0 m 0 _ []) :=
    hV _ hl s.heap [] 0 0 ⟨hw.1, va_S.rf, Nat.zero_add _, Nat.zero_add _⟩
  intro T hT X0
  obtain ⟨t, a1, b1, b2, b3, b4, L, b5, b6⟩ := hw1 T hT X0
  exact ⟨t, a1, _, b1, b2, b3, L, ⟨⟨_, rfl⟩, b4, b5⟩, b6⟩
