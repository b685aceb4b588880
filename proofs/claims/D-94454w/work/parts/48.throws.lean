set_option maxRecDepth 100000
/-! ===== methods that may throw ===== -/
def gFE (first t : State) (L : List Loc) (k n : Nat) : Prop := first.WarmedH t.vm ∧ first.sameButNew ({ t with vm := first.vm } : State) L k n
def MetX (l : Launch) (y : MethodName) (ws : List Cond) (rm : Room) (Pc : Array Value → State → Prop) (Qc : Array Value → State → Outcome → State → Prop) (mc ms : Nat) (free : Addr → Prop) : Prop :=
  MetFree l y (headSpec ws rm) Pc (fun _ _ _ _ _ => True) (fun a st o t => Qc a st o t ∧ ∃ L, gFE st t L mc ms ∧ ∀ q ∈ L, free q.base)
section
variable {p : Program} {l : Launch} {e : Env} {R : Room} {s : State} {m : MethodId} {sargs : Array Value} {below : List Frame} {meth : Method} {c : Code} {U : State} {locs : List Loc} {cells slots : Nat}
/-- behind a call of such a method: it has returned, or its throw is noted above the caller's frame -/
theorem gBackX {y : MethodName} {ws : List Cond} {rm : Room} {Pc : Array Value → State → Prop} {Qc : Array Value → State → Outcome → State → Prop} {mc ms : Nat} {free : Addr → Prop} {bytes : ByteArray} {maxL : Nat} {ret : Option FieldType} {len : Nat}
    (hM : MetX l y ws rm Pc Qc mc ms free) (hblind : FrameBlind Pc) (hrc : rm.cells = mc) (hrs : rm.slots = ms) (hframes : rm.frames + 1 ≤ R.frames) (hlocals : 8 + (maxL + 11) + rm.locals ≤ R.locals)
    (hws : ∀ w ∈ ws, ∀ (a' : Array Value) (U : State), s.WarmedH U.vm → w.before a' U = true) (h2 : ∀ (a' : Array Value) (U : State), s.WarmedH U.vm → (Cond.code y bytes maxL ret).before a' U = true) (h3 : ∀ (a' : Array Value) (U : State), s.WarmedH U.vm → (Cond.initialized y.cls).before a' U = true)
    (X : Stand p l e R s m sargs below meth c U locs cells slots) {g : JFrame} {ig : Instr} {mk : MethodId} {a : Array Value} (hg : g.method = m) (hsize : g.locals.size = c.maxLocals) (hdg : decode c.code g.pc = .ok (ig, len)) (hW : 2 * g.monitorRoom + (g.stack.map fun v => v.category).sum ≤ 8) (hn : U.methodNamed? y = some mk) (h4 : cells + mc ≤ R.cells) (h5 : slots + ms ≤ R.slots) (hp : Pc a U) :
    ∃ (o : Outcome) (t T' : State) (L : List Loc), T'.heap = t.heap ∧ T'.vm = t.vm ∧ Stand p l e R s m sargs below meth c T' (locs ++ L) (cells + mc) (slots + ms) ∧ (∀ q ∈ L, free q.base) ∧ (∃ st₀ : State, st₀.heap = U.heap ∧ Qc a st₀ o t) ∧
      ((∃ v, o = .returned v ∧ Steps p.tables e below (doInvoke e (U.setTop g) [] mk a).1 (T'.setTop { g with pc := g.pc + len, stack := v.toList ++ g.stack })) ∨
       (∃ b, o = .threw b ∧ Steps p.tables e below (doInvoke e (U.setTop g) [] mk a).1 ((T'.setTop g).pushFrame (.throwing b)))) := by
  have h1 : (headSpec ws rm).pre.before a U = true := atoms_intro fun w hw => hws w hw _ _ X.warmed
  obtain ⟨methY, cY, hmY, hcY, -, hlY, -, -, -, -⟩ := Cond.code_spec hn (h2 a U X.warmed)
  obtain ⟨kY, hkY, -⟩ := className_of_methodNamed hn
  have hinitY : kY.init = .initialized := Cond.initialized_spec (findClass_of_methodNamed hn) hkY (h3 a U X.warmed)
  have h : At U g.method c below := by rw [hg]; exact X.here
  have happ : (headSpec ws rm).appliesLoose y e.platform (U.calling g mk a) = true :=
    Spec.appliesLoose_calling (g := g) h hdg hn hkY hinitY
      (X.room_calling (g := g) (R' := (headSpec ws rm).room) hsize hmY hcY hframes (by rw [hlY]; show _ ≤ _; have : (headSpec ws rm).room.locals = rm.locals := rfl; omega) (by show cells + rm.cells ≤ _; omega) (by show slots + rm.slots ≤ _; omega)) h1
  obtain ⟨mid, hmid⟩ := h.above
  have hfr : (U.setTop g).frames = (.java g :: mid) ++ below := by rw [State.frames_setTop' g h.top, hmid]; rfl
  obtain ⟨o, s₂, hsteps, -, hend, hq⟩ := Steps.callFree hM p X.admits X.cas X.clock (acts := []) hfr happ (hblind _ _ _ _ hp) trivial
  have hq' : Qc a (U.calling g mk a) o s₂ ∧ ∃ L, gFE (U.calling g mk a) s₂ L mc ms ∧ ∀ q ∈ L, free q.base := hq
  rw [State.frames_setTop' g h.top] at hend
  obtain ⟨hQ, L, hfe, hL⟩ := hq'
  obtain ⟨hW₂, e2, q2, q3, q4, q5, q6⟩ := id hfe
  have e3 : s₂ = ({ (U.calling g mk a).setFrames s₂.frames with heap := s₂.heap, slotsUsed := s₂.slotsUsed } : State).setVm s₂.vm := by
    have : s₂ = ({ s₂ with vm := (U.calling g mk a).vm } : State).setVm s₂.vm := rfl
    rw [e2] at this
    exact this
  have hW' : U.WarmedH s₂.vm := hW₂
  obtain ⟨g₀, hg0⟩ := Option.isSome_iff_exists.mp h.top
  obtain ⟨r, hr⟩ := State.topJava?_eq_some.mp hg0
  have hr' : (({ U with heap := s₂.heap, slotsUsed := s₂.slotsUsed } : State).setVm s₂.vm).frames = .java g₀ :: r := hr
  have hsame : U.sameButNew ({ U with heap := s₂.heap, slotsUsed := s₂.slotsUsed } : State) L mc ms := by
    refine ⟨?_, q2, q3, q4, q5, q6⟩
    obtain ⟨t, ht, -⟩ := State.frames_cons hr
    show ({ U with heap := s₂.heap, slotsUsed := s₂.slotsUsed } : State) = { U.setFrames U.frames with heap := s₂.heap, slotsUsed := s₂.slotsUsed }
    rw [State.setFrames_self ht]
  subst hg
  refine ⟨o, s₂, (({ U with heap := s₂.heap, slotsUsed := s₂.slotsUsed } : State).setVm s₂.vm), L, rfl, rfl,
    ⟨X.admits, X.cas, X.clock, X.frames, X.room, X.hears, X.method, X.code, (X.here.setHeapUsed s₂.heap s₂.slotsUsed).setVm hW'.alike, X.tail, State.WarmedH.trans X.warmed hW', X.limits, X.bytes, X.same.trans (hsame.setVm s.vm)⟩,
    hL, ⟨_, by simp [State.calling, State.pushFrame, State.setFrames, State.setTop, State.modifyTopJava], hQ⟩, ?_⟩
  cases o with
  | returned v =>
    left
    obtain ⟨c₂, i₂, len₂, hc₂, hd₂, hf₂⟩ := hend
    have hcc : c₂ = c := by
      have h1 : s₂.code? g.method = U.code? g.method := by
        rw [State.code?_eq, State.code?_eq, hW'.alike.method?]
      exact Option.some.inj (hc₂.symm.trans (h1.trans h.code))
    subst hcc
    have hlen : len₂ = len := by rw [hdg] at hd₂; cases hd₂; rfl
    subst hlen
    refine ⟨v, rfl, ?_⟩
    have hs₂ : s₂ = (({ U with heap := s₂.heap, slotsUsed := s₂.slotsUsed } : State).setVm s₂.vm).setTop { g with pc := g.pc + len₂, stack := v.toList ++ g.stack } := by
      refine e3.trans ?_
      rw [hf₂, State.calling_eq h.top, State.setFrames_setFrames, State.setTop_of_frames _ hr', hr]
      rfl
    rw [← hs₂]
    exact hsteps
  | threw b =>
    right
    refine ⟨b, rfl, ?_⟩
    have hf₂ : s₂.frames = .throwing b :: (.java g :: U.frames.tail) := hend
    have hs₂ : s₂ = ((({ U with heap := s₂.heap, slotsUsed := s₂.slotsUsed } : State).setVm s₂.vm).setTop g).pushFrame (.throwing b) := by
      refine e3.trans ?_
      rw [hf₂, State.calling_eq h.top, State.setFrames_setFrames, State.setTop_of_frames _ hr', hr]
      have hcur : (({ U with heap := s₂.heap, slotsUsed := s₂.slotsUsed } : State).setVm s₂.vm).cur < (({ U with heap := s₂.heap, slotsUsed := s₂.slotsUsed } : State).setVm s₂.vm).threads.size := State.cur_lt_of_frames hr'
      show _ = ((({ U with heap := s₂.heap, slotsUsed := s₂.slotsUsed } : State).setVm s₂.vm).setFrames (Frame.java g :: r)).setFrames (.throwing b :: ((({ U with heap := s₂.heap, slotsUsed := s₂.slotsUsed } : State).setVm s₂.vm).setFrames (Frame.java g :: r)).frames)
      rw [State.setFrames_setFrames, State.frames_setFrames _ hcur]
      rfl
    rw [← hs₂]
    exact hsteps
end
