set_option maxRecDepth 100000
section
variable {K : gK} {cc : ByteArray} {nL : Nat} {own nm : String} {ret : Option FieldType} {fr lo : Nat} {h : gH} {pc : Nat} {lv : List (Nat × Value)} {st : List Value} {β : Type} {r : β} {h' : gH}
variable {α : Type} {f : Mo α} {g : α → Mo β} {y : MethodName} {cy : ByteArray} {nLy fry loy : Nat} {rety : Option FieldType} {av : List Value} {ov : α → Option Value}
/-- behind a call -/
theorem v_back (X : gX K cc nL own nm ret fr lo) (hd : (Mo.bind f g).1 h = some (r, h')) (hle : gLe h' (kh1 K)) {a : Array Value} {st0 : List Value}
    (hrun : ∀ (ls : Array Slot) (H : Heap) (locs : List Loc) (cells slots : Nat) (b : α) (h1 : gH), ls.size = nL → gRp K h H locs cells slots → f.1 h = some (b, h1) → cells + (h1.2.1 - h.2.1) ≤ (kR K).cells ∧ slots + (h1.2.2 - h.2.2) ≤ (kR K).slots → va_Run (kp K) (kl K) (ke K) (kR K) (ks K) (km K) (ka K) (kb K) (kt K) (kc K) H locs cells slots (h1.2.1 - h.2.1) (h1.2.2 - h.2.2) (F0 (km K) pc ls st0) st (gQc (kG K) (.returned (ov b)) h1 a) (gY (kG K)))
    (kk : ∀ (b : α) (h1 : gH), (g b).1 h1 = some (r, h') → V K nL h1 (pc + 3) lv ((ov b).toList ++ st)) : V K nL h pc lv st0 := by
  intro ls hl H locs cells slots rp
  obtain ⟨b, h1, e1, e2⟩ := Mo.bind_some hd
  have l1 := f.2 _ _ _ e1
  have l2 := ((g b).2 _ _ _ e2).tr hle
  have hrm := gRp_room X (h2 := h1) (n := h1.2.1 - h.2.1) (k := h1.2.2 - h.2.2) rp (by have := l1.1; omega) (by have := l1.2; omega) l2
  intro T hT X0
  obtain ⟨v, st₀, t, T', L, z1, X', z2, z3, z4, ⟨z5, z6, z7⟩, z8⟩ := hrun ls H locs cells slots b h1 hl.1 rp e1 hrm T hT X0
  cases z5
  have hsz : (kG K).1 ≤ (ks K).heap.size := by rw [X.hW.1.1]; exact X.hW.1.2.1
  have rp' : gRp K h1 t.heap (locs ++ L) (cells + (h1.2.1 - h.2.1)) (slots + (h1.2.2 - h.2.2)) := by
    refine ⟨z6.1, ⟨?_, fun q q1 q2 => ?_, fun q hq => ?_⟩, ?_, ?_⟩
    · have a1 := rp.2.1.1; have a2 := rp.1.1; have a3 := z6.1.1; have a4 := l1.1; omega
    · have q3 : q < (kG K).1 := Nat.lt_of_not_le q2
      rw [z7 q q3, z1]
      exact rp.2.1.2.1 q q1 q2
    · rcases List.mem_append.mp hq with m | m
      · exact rp.2.1.2.2 q m
      · exact z2 q m
    · have a1 := rp.2.2.1; have a4 := l1.1; omega
    · have a1 := rp.2.2.2; have a4 := l1.2; omega
  obtain ⟨t2, a1, b1⟩ := kk b h1 e2 ls hl t.heap (locs ++ L) _ _ rp' T' z3 X'
  exact ⟨t2, z8 t2 a1, b1⟩
theorem gPre (X : gX K cc nL own nm ret fr lo) {H : Heap} {locs : List Loc} {cells slots : Nat} (rp : gRp K h H locs cells slots) (av : List Value) : PreS (ks K) H (va_Pc av (gW (kG K) h)) av :=
  ⟨gW_blind, fun U hU hW => ⟨rfl, (gW_end X rp hU hW).1⟩⟩
theorem v_callS (X : gX K cc nL own nm ret fr lo) (hd : (Mo.bind f g).1 h = some (r, h')) (hle : gLe h' (kh1 K)) (ct : gCt (kG K) y cy nLy rety fry loy av f ov) {index n : Nat} (hw : GoodIn lw_all (va_wsS own index y (ws_ y cy nLy rety))) (hdn : y.cls ≠ "java/lang/invoke/MethodHandle" ∧ y.cls ≠ "java/lang/invoke/VarHandle" ∧ (parseMethodDescriptor y.desc).map (fun d => d.parameters.length) = some n) (hn : av.length = n)
    (hR : fry + 1 ≤ fr ∧ 8 + (nLy + 11) + loy ≤ lo) {st0 : List Value} (hst : st0 = av.reverse ++ st) (hW8 : (st.map fun v => v.category).sum ≤ 8) (hdg : decode cc pc = .ok (.invokestatic index, 3))
    (kk : ∀ (b : α) (h1 : gH), (g b).1 h1 = some (r, h') → V K nL h1 (pc + 3) lv ((ov b).toList ++ st)) : V K nL h pc lv st0 := by
  refine v_back X hd hle (a := av.toArray) (fun ls H locs cells slots b h1 hls rp e1 hrm => ?_) kk
  have hR' : fry + 1 ≤ (kR K).frames ∧ 8 + (nLy + 11) + loy ≤ (kR K).locals := by rw [X.hR.1, X.hR.2.1]; exact hR
  exact va_runS (As := av) ⟨X.hx, X.hb, X.hml, X.hown, X.hts⟩ (ct (kl K) X.hfl h b h1 e1) (va_cwS n X.hts hw rfl rfl rfl hdn hR') (gPre X rp av) rfl hn hls hst (lv_room hW8) hdg hrm
theorem v_callSN (X : gX K cc nL own nm ret fr lo) (hd : (Mo.bind f g).1 h = some (r, h')) (hle : gLe h' (kh1 K)) (ct : gCt (kG K) y cy nLy rety fry loy av f ov) {index n : Nat} {host : String} (hl0 : (own, index, y, host) ∈ gNM) (hc : Cond.code y cy nLy rety ∈ lw_all) (hs : Cond.static y ∈ lw_all) (hi : Cond.initialized y.cls ∈ lw_all) (hdn : y.cls ≠ "java/lang/invoke/MethodHandle" ∧ y.cls ≠ "java/lang/invoke/VarHandle" ∧ (parseMethodDescriptor y.desc).map (fun d => d.parameters.length) = some n) (hn : av.length = n)
    (hR : fry + 1 ≤ fr ∧ 8 + (nLy + 11) + loy ≤ lo) {st0 : List Value} (hst : st0 = av.reverse ++ st) (hW8 : (st.map fun v => v.category).sum ≤ 8) (hdg : decode cc pc = .ok (.invokestatic index, 3))
    (kk : ∀ (b : α) (h1 : gH), (g b).1 h1 = some (r, h') → V K nL h1 (pc + 3) lv ((ov b).toList ++ st)) : V K nL h pc lv st0 := by
  refine v_back X hd hle (a := av.toArray) (fun ls H locs cells slots b h1 hls rp e1 hrm => ?_) kk
  have hR' : fry + 1 ≤ (kR K).frames ∧ 8 + (nLy + 11) + loy ≤ (kR K).locals := by rw [X.hR.1, X.hR.2.1]; exact hR
  exact va_runSN (As := av) ⟨X.hx, X.hb, X.hml, X.hown, X.hts⟩ (ct (kl K) X.hfl h b h1 e1) ⟨va_cnB n X.hts (lw_meth hc) rfl rfl rfl (X.hW.2.2.1.2.1 (own, index, y, host) hl0) (X.hts _ hi) hdn hR', X.hts _ hs, trivial⟩ (gPre X rp av) rfl hn hls hst (lv_room hW8) hdg hrm
theorem chk_some {γ : Type} {cs : List Nat} {a : Nat} {f0 : Unit → Mo γ} {x : γ} {h1 : gH} (e : (Mo.bind (chk cs a) f0).1 h = some (x, h1)) : (∃ o, h.1 a = .inr o ∧ o.1 ∈ cs) ∧ (f0 ()).1 h = some (x, h1) := by
  obtain ⟨u, h2, e1, e2⟩ := Mo.bind_some e
  obtain ⟨e3, rfl⟩ := Mo.rd_some e1
  by_cases z : gOk cs (some a) h2 = true
  · exact ⟨gOk_live z, e2⟩
  · rw [if_neg z] at e3; cases e3
/-- the receiver's cell -/
theorem gRecv (X : gX K cc nL own nm ret fr lo) {H : Heap} (w : gP (kG K) h H) {a ci : Nat} {rr : vw_C} (hci : gCl[ci]? = some rr) {o : Nat × List Value} (e : h.1 a = .inr o) (ho : o.1 = ci) : ∃ cellB : Cell, H[a]? = some cellB ∧ cellB.vm.isStatics = false ∧ (ks K).vm.findClass rr.1 = some cellB.cls := by
  obtain ⟨-, -, r0, g3, g4, cell, q1, q2, q3, q4⟩ := w.obj e
  subst ho
  cases g3.symm.trans hci
  have hcls := (X.hW.2.1.1 o.1 _ hci).2
  exact ⟨cell, q1, by rw [q3]; rfl, by rw [q2]; exact hcls.1⟩
theorem v_callV (X : gX K cc nL own nm ret fr lo) {b0 ci : Nat} {As : List Value} {f0 : Unit → Mo α} (hd : (Mo.bind (Mo.bind (chk [ci] b0) f0) g).1 h = some (r, h')) (hle : gLe h' (kh1 K)) (ct : gCt (kG K) y cy nLy rety fry loy (.ref b0 :: As) (Mo.bind (chk [ci] b0) f0) ov) {index n : Nat} {rr : vw_C} (hci : gCl[ci]? = some rr) (hw : GoodIn lw_all (wsV own index rr.1 y (ws_ y cy nLy rety))) (hdn : y.cls = rr.1 ∧ y.cls ≠ "java/lang/invoke/MethodHandle" ∧ y.cls ≠ "java/lang/invoke/VarHandle" ∧ (parseMethodDescriptor y.desc).map (fun d => d.parameters.length) = some n) (hn : As.length = n)
    (hR : fry + 1 ≤ fr ∧ 8 + (nLy + 11) + loy ≤ lo) {st0 : List Value} (hst : st0 = As.reverse ++ .ref b0 :: st) (hW8 : (st.map fun v => v.category).sum ≤ 8) (hdg : decode cc pc = .ok (.invokevirtual index, 3))
    (kk : ∀ (b : α) (h1 : gH), (g b).1 h1 = some (r, h') → V K nL h1 (pc + 3) lv ((ov b).toList ++ st)) : V K nL h pc lv st0 := by
  refine v_back X hd hle (a := (Value.ref b0 :: As).toArray) (fun ls H locs cells slots b h1 hls rp e1 hrm => ?_) kk
  have hR' : fry + 1 ≤ (kR K).frames ∧ 8 + (nLy + 11) + loy ≤ (kR K).locals := by rw [X.hR.1, X.hR.2.1]; exact hR
  obtain ⟨⟨o, e3, e4⟩, -⟩ := chk_some e1
  have pre := gPre X rp (.ref b0 :: As)
  exact va_runV (As := As) ⟨X.hx, X.hb, X.hml, X.hown, X.hts⟩ (ct (kl K) X.hfl h b h1 e1) (cwV n X.hts hw rfl rfl rfl hdn hR') ⟨pre.1, gRecv X rp.1 hci e3 (by simpa using e4), pre.2⟩ rfl hn hls hst (lv_room hW8) hdg hrm
theorem v_callI (X : gX K cc nL own nm ret fr lo) {b0 : Nat} {As : List Value} (hd : (Mo.bind f g).1 h = some (r, h')) (hle : gLe h' (kh1 K)) (ct : gCt (kG K) y cy nLy none fry loy (.ref b0 :: As) f ov) {index n : Nat} (hc : Cond.code y cy nLy none ∈ lw_all) (hi : Cond.initialized y.cls ∈ lw_all) (hl0 : Cond.methodLink own index y ∈ lw_all) (him : Cond.instanceMethod y ∈ lw_all) (hy1 : y.name = "<init>") (hdn : y.cls ≠ "java/lang/invoke/MethodHandle" ∧ y.cls ≠ "java/lang/invoke/VarHandle" ∧ (parseMethodDescriptor y.desc).map (fun d => d.parameters.length) = some n) (hn : As.length = n)
    (hR : fry + 1 ≤ fr ∧ 8 + (nLy + 11) + loy ≤ lo) {st0 : List Value} (hst : st0 = As.reverse ++ .ref b0 :: st) (hW8 : (st.map fun v => v.category).sum ≤ 8) (hdg : decode cc pc = .ok (.invokespecial index, 3))
    (kk : ∀ (b : α) (h1 : gH), (g b).1 h1 = some (r, h') → V K nL h1 (pc + 3) lv ((ov b).toList ++ st)) : V K nL h pc lv st0 := by
  refine v_back X hd hle (a := (Value.ref b0 :: As).toArray) (fun ls H locs cells slots b h1 hls rp e1 hrm => ?_) kk
  have hR' : fry + 1 ≤ (kR K).frames ∧ 8 + (nLy + 11) + loy ≤ (kR K).locals := by rw [X.hR.1, X.hR.2.1]; exact hR
  exact va_runI (As := As) ⟨X.hx, X.hb, X.hml, X.hown, X.hts⟩ (ct (kl K) X.hfl h b h1 e1) (cwI n X.hts (lw_meth hc) rfl rfl rfl (X.hts _ hi) (X.hts _ hl0) (X.hts _ him) hy1 hdn hR') (gPre X rp (.ref b0 :: As)) rfl hn hls hst (lv_room hW8) hdg hrm
theorem v_callIN (X : gX K cc nL own nm ret fr lo) {b0 : Nat} {As : List Value} (hd : (Mo.bind f g).1 h = some (r, h')) (hle : gLe h' (kh1 K)) (ct : gCt (kG K) y cy nLy none fry loy (.ref b0 :: As) f ov) {index n : Nat} {host : String} (hl0 : (own, index, y, host) ∈ gNM) (hc : Cond.code y cy nLy none ∈ lw_all) (hi : Cond.initialized y.cls ∈ lw_all) (him : Cond.instanceMethod y ∈ lw_all) (hy1 : y.name = "<init>") (hdn : y.cls ≠ "java/lang/invoke/MethodHandle" ∧ y.cls ≠ "java/lang/invoke/VarHandle" ∧ (parseMethodDescriptor y.desc).map (fun d => d.parameters.length) = some n) (hn : As.length = n)
    (hR : fry + 1 ≤ fr ∧ 8 + (nLy + 11) + loy ≤ lo) {st0 : List Value} (hst : st0 = As.reverse ++ .ref b0 :: st) (hW8 : (st.map fun v => v.category).sum ≤ 8) (hdg : decode cc pc = .ok (.invokespecial index, 3))
    (kk : ∀ (b : α) (h1 : gH), (g b).1 h1 = some (r, h') → V K nL h1 (pc + 3) lv ((ov b).toList ++ st)) : V K nL h pc lv st0 := by
  refine v_back X hd hle (a := (Value.ref b0 :: As).toArray) (fun ls H locs cells slots b h1 hls rp e1 hrm => ?_) kk
  have hR' : fry + 1 ≤ (kR K).frames ∧ 8 + (nLy + 11) + loy ≤ (kR K).locals := by rw [X.hR.1, X.hR.2.1]; exact hR
  exact va_runIN (As := As) ⟨X.hx, X.hb, X.hml, X.hown, X.hts⟩ (ct (kl K) X.hfl h b h1 e1) ⟨va_cnB n X.hts (lw_meth hc) rfl rfl rfl (X.hW.2.2.1.2.1 (own, index, y, host) hl0) (X.hts _ hi) hdn hR', hy1, X.hts _ him⟩ (gPre X rp (.ref b0 :: As)) rfl hn hls hst (lv_room hW8) hdg hrm
end
