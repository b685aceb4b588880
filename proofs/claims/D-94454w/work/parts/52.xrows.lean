set_option maxRecDepth 100000
section
variable {K : gK} {cc : ByteArray} {nL : Nat} {own nm : String} {ret : Option FieldType} {fr lo : Nat} {h : gH} {pc : Nat} {lv : List (Nat × Value)} {st : List Value} {β : Type} {r : β} {h' : gH}
variable {α : Type} {f : Mo (Nat ⊕ α)} {g : Nat ⊕ α → Mo β} {y : MethodName} {cy : ByteArray} {nLy fry loy : Nat} {rety : Option FieldType} {ov : α → Option Value}
theorem dn_len {y : MethodName} {n k : Nat} (h : (parseMethodDescriptor y.desc).map (fun d => d.parameters.length) = some n) (hk : k = n) : ∀ sig, parseMethodDescriptor y.desc = some sig → k = sig.parameters.length := by
  intro sig hs
  rw [hs] at h
  exact hk.trans (Option.some.inj h).symm
theorem v_callVX (X : gX K cc nL own nm ret fr lo) {b0 ci : Nat} {As : List Value} {f0 : Unit → Mo (Nat ⊕ α)} (hd : (Mo.bind (Mo.bind (chk [ci] b0) f0) g).1 h = some (r, h')) (hle : gLe h' (kh1 K)) (ct : gCx (kG K) y cy nLy rety fry loy (.ref b0 :: As) (Mo.bind (chk [ci] b0) f0) ov) {index n : Nat} {rr : vw_C} (hci : gCl[ci]? = some rr) (q1 : Cond.methodLink own index y ∈ lw_all) (q2 : Cond.instanceMethod y ∈ lw_all) (q3 : Cond.selects rr.1 y y ∈ lw_all) (q4 : Cond.initialized y.cls ∈ lw_all) (q5 : Cond.code y cy nLy rety ∈ lw_all) (hdn : y.cls ≠ "java/lang/invoke/MethodHandle" ∧ y.cls ≠ "java/lang/invoke/VarHandle" ∧ (parseMethodDescriptor y.desc).map (fun d => d.parameters.length) = some n) (hn : As.length = n)
    (hR : fry + 1 ≤ fr ∧ 8 + (nLy + 11) + loy ≤ lo) {st0 : List Value} (hst : st0 = As.reverse ++ .ref b0 :: st) (hW8 : (st.map fun v => v.category).sum ≤ 8) (hdg : decode cc pc = .ok (.invokevirtual index, 3))
    (kk : ∀ (x : α) (h1 : gH), (g (.inr x)).1 h1 = some (r, h') → V K nL h1 (pc + 3) lv ((ov x).toList ++ st))
    (kt : ∀ (b : Nat) (h1 : gH), (g (.inl b)).1 h1 = some (r, h') → VX K nL h1 pc lv st b) : V K nL h pc lv st0 := by
  refine v_backX X hd hle ct q5 q4 hR hdg hW8 (fun ls H locs cells slots T b h1 rp e1 hT XS => ?_) kk kt
  obtain ⟨⟨o, e3, e4⟩, -⟩ := chk_some e1
  obtain ⟨cell, c1, c2, c3⟩ := gRecv X rp.1 hci e3 (by simpa using e4)
  exact gEntV XS X.hx X.hown (X.hts _ q1) (X.hts _ q2) (X.hts _ q3) (X.hts _ q5) ⟨hdn.1, hdn.2.1⟩ (by rw [hT]; exact c1) c2 c3 rfl (dn_len hdn.2.2 hn) hst (by rw [X.hb]; exact hdg)
theorem v_callUX (X : gX K cc nL own nm ret fr lo) {b0 : Nat} {cs : List Nat} {As : List Value} (hd : (Mo.bind (Mo.bind (chk cs b0) (fun _ => f)) g).1 h = some (r, h')) (hle : gLe h' (kh1 K)) (ct : gCx (kG K) y cy nLy rety fry loy (.ref b0 :: As) f ov) {index n : Nat} {owner : String} {x : MethodName} (hw : ∀ ci ∈ cs, ∃ rr : vw_C, gCl[ci]? = some rr ∧ GoodIn lw_all (va_wsU own index rr.1 owner x y (ws_ y cy nLy rety))) (hyx : y = ⟨owner, x.name, x.desc⟩) (hdn : owner ≠ "java/lang/invoke/MethodHandle" ∧ owner ≠ "java/lang/invoke/VarHandle" ∧ (parseMethodDescriptor x.desc).map (fun d => d.parameters.length) = some n) (hn : As.length = n) (q4 : Cond.initialized y.cls ∈ lw_all) (q5 : Cond.code y cy nLy rety ∈ lw_all)
    (hR : fry + 1 ≤ fr ∧ 8 + (nLy + 11) + loy ≤ lo) {st0 : List Value} (hst : st0 = As.reverse ++ .ref b0 :: st) (hW8 : (st.map fun v => v.category).sum ≤ 8) (hdg : decode cc pc = .ok (.invokevirtual index, 3))
    (kk : ∀ (x : α) (h1 : gH), (g (.inr x)).1 h1 = some (r, h') → V K nL h1 (pc + 3) lv ((ov x).toList ++ st))
    (kt : ∀ (b : Nat) (h1 : gH), (g (.inl b)).1 h1 = some (r, h') → VX K nL h1 pc lv st b) : V K nL h pc lv st0 := by
  have ct' : gCx (kG K) y cy nLy rety fry loy (.ref b0 :: As) (Mo.bind (chk cs b0) (fun _ => f)) ov := fun l hl h r h' e => ct l hl h r h' (chk_some e).2
  refine v_backX X hd hle ct' q5 q4 hR hdg hW8 (fun ls H locs cells slots T b h1 rp e1 hT XS => ?_) kk kt
  obtain ⟨⟨o, e3, e4⟩, -⟩ := chk_some e1
  obtain ⟨rr, hci, hw⟩ := hw _ e4
  obtain ⟨cell, c1, c2, c3⟩ := gRecv X rp.1 hci e3 rfl
  have hR' : fry + 1 ≤ (kR K).frames ∧ 8 + (nLy + 11) + loy ≤ (kR K).locals := by rw [X.hR.1, X.hR.2.1]; exact hR
  have cw : va_CU (kR K) (ks K) (ka K) own rr.1 owner index x y cy nLy rety (ws_ y cy nLy rety) ({ frames := fry, cells := 0, slots := 0, locals := loy }) 0 0 n := va_cwU n X.hts hw rfl rfl rfl hyx hdn hR'
  exact gEntU XS X.hx X.hown cw.link cw.same cw.decl cw.notMH cw.sel cw.inst (by rw [hT]; exact c1) c2 c3 rfl (fun sig hs => hn.trans (cw.len sig hs)) hst (by rw [X.hb]; exact hdg)
theorem v_callSX (X : gX K cc nL own nm ret fr lo) {av : List Value} (hd : (Mo.bind f g).1 h = some (r, h')) (hle : gLe h' (kh1 K)) (ct : gCx (kG K) y cy nLy rety fry loy av f ov) {index n : Nat} (q1 : Cond.methodLink own index y ∈ lw_all) (q2 : Cond.static y ∈ lw_all) (q4 : Cond.initialized y.cls ∈ lw_all) (q5 : Cond.code y cy nLy rety ∈ lw_all) (hdn : y.cls ≠ "java/lang/invoke/MethodHandle" ∧ y.cls ≠ "java/lang/invoke/VarHandle" ∧ (parseMethodDescriptor y.desc).map (fun d => d.parameters.length) = some n) (hn : av.length = n)
    (hR : fry + 1 ≤ fr ∧ 8 + (nLy + 11) + loy ≤ lo) {st0 : List Value} (hst : st0 = av.reverse ++ st) (hW8 : (st.map fun v => v.category).sum ≤ 8) (hdg : decode cc pc = .ok (.invokestatic index, 3))
    (kk : ∀ (x : α) (h1 : gH), (g (.inr x)).1 h1 = some (r, h') → V K nL h1 (pc + 3) lv ((ov x).toList ++ st))
    (kt : ∀ (b : Nat) (h1 : gH), (g (.inl b)).1 h1 = some (r, h') → VX K nL h1 pc lv st b) : V K nL h pc lv st0 := by
  refine v_backX X hd hle ct q5 q4 hR hdg hW8 (fun ls H locs cells slots T b h1 rp e1 hT XS => ?_) kk kt
  exact gEntS XS X.hx X.hown (X.hts _ q1) (X.hts _ q2) (X.hts _ q4) (X.hts _ q5) ⟨hdn.1, hdn.2.1⟩ rfl (dn_len hdn.2.2 hn) hst (by rw [X.hb]; exact hdg)
end
