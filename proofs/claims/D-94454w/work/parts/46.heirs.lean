set_option maxRecDepth 100000
section
variable {K : gK} {cc : ByteArray} {nL : Nat} {own nm : String} {ret : Option FieldType} {fr lo : Nat} {h : gH} {pc : Nat} {lv : List (Nat × Value)} {st : List Value} {β : Type} {r : β} {h' : gH}
variable {α : Type} {f : Mo α} {g : α → Mo β} {y : MethodName} {cy : ByteArray} {nLy fry loy : Nat} {rety : Option FieldType} {ov : α → Option Value}
/-- a call of an inherited method: the receiver is of one of the classes cs -/
theorem v_callU (X : gX K cc nL own nm ret fr lo) {b0 : Nat} {cs : List Nat} {As : List Value} (hd : (Mo.bind (Mo.bind (chk cs b0) (fun _ => f)) g).1 h = some (r, h')) (hle : gLe h' (kh1 K)) (ct : gCt (kG K) y cy nLy rety fry loy (.ref b0 :: As) f ov) {index n : Nat} {owner : String} {x : MethodName} (hw : ∀ ci ∈ cs, ∃ rr : vw_C, gCl[ci]? = some rr ∧ GoodIn lw_all (va_wsU own index rr.1 owner x y (ws_ y cy nLy rety))) (hyx : y = ⟨owner, x.name, x.desc⟩) (hdn : owner ≠ "java/lang/invoke/MethodHandle" ∧ owner ≠ "java/lang/invoke/VarHandle" ∧ (parseMethodDescriptor x.desc).map (fun d => d.parameters.length) = some n) (hn : As.length = n)
    (hR : fry + 1 ≤ fr ∧ 8 + (nLy + 11) + loy ≤ lo) {st0 : List Value} (hst : st0 = As.reverse ++ .ref b0 :: st) (hW8 : (st.map fun v => v.category).sum ≤ 8) (hdg : decode cc pc = .ok (.invokevirtual index, 3))
    (kk : ∀ (b : α) (h1 : gH), (g b).1 h1 = some (r, h') → V K nL h1 (pc + 3) lv ((ov b).toList ++ st)) : V K nL h pc lv st0 := by
  refine v_back X hd hle (a := (Value.ref b0 :: As).toArray) (fun ls H locs cells slots b h1 hls rp e1 hrm => ?_) kk
  have hR' : fry + 1 ≤ (kR K).frames ∧ 8 + (nLy + 11) + loy ≤ (kR K).locals := by rw [X.hR.1, X.hR.2.1]; exact hR
  obtain ⟨⟨o, e3, e4⟩, e5⟩ := chk_some e1
  obtain ⟨rr, hci, hw⟩ := hw _ e4
  have pre := gPre X rp (.ref b0 :: As)
  exact va_runU (As := As) (C := rr.1) ⟨X.hx, X.hb, X.hml, X.hown, X.hts⟩ (ct (kl K) X.hfl h b h1 e5) (va_cwU n X.hts hw rfl rfl rfl hyx hdn hR') ⟨pre.1, gRecv X rp.1 hci e3 rfl, pre.2⟩ rfl hn hls hst (lv_room hW8) hdg hrm
/-- a call that an overriding method answers -/
theorem v_callO (X : gX K cc nL own nm ret fr lo) {b0 ci : Nat} {As : List Value} (hd : (Mo.bind f g).1 h = some (r, h')) (hle : gLe h' (kh1 K)) (ct : gCt (kG K) y cy nLy rety fry loy (.ref b0 :: As) f ov) {o : Nat × List Value} (ho : h.1 b0 = .inr o) (hoc : o.1 = ci) {rr : vw_C} (hci : gCl[ci]? = some rr) {index n : Nat} {owner : String} {x : MethodName} {b00 : ByteArray} {m00 : Nat} {r00 : Option FieldType} (hw : GoodIn lw_all (va_wsO own index rr.1 owner x y (ws_ y cy nLy rety))) (h00 : Cond.code ⟨owner, x.name, x.desc⟩ b00 m00 r00 ∈ lw_all) (hdn : owner ≠ "java/lang/invoke/MethodHandle" ∧ owner ≠ "java/lang/invoke/VarHandle" ∧ (parseMethodDescriptor x.desc).map (fun d => d.parameters.length) = some n) (hn : As.length = n)
    (hR : fry + 1 ≤ fr ∧ 8 + (nLy + 11) + loy ≤ lo) {st0 : List Value} (hst : st0 = As.reverse ++ .ref b0 :: st) (hW8 : (st.map fun v => v.category).sum ≤ 8) (hdg : decode cc pc = .ok (.invokevirtual index, 3))
    (kk : ∀ (b : α) (h1 : gH), (g b).1 h1 = some (r, h') → V K nL h1 (pc + 3) lv ((ov b).toList ++ st)) : V K nL h pc lv st0 := by
  refine v_back X hd hle (a := (Value.ref b0 :: As).toArray) (fun ls H locs cells slots b h1 hls rp e1 hrm => ?_) kk
  have hR' : fry + 1 ≤ (kR K).frames ∧ 8 + (nLy + 11) + loy ≤ (kR K).locals := by rw [X.hR.1, X.hR.2.1]; exact hR
  have pre := gPre X rp (.ref b0 :: As)
  exact va_runU (As := As) (C := rr.1) ⟨X.hx, X.hb, X.hml, X.hown, X.hts⟩ (ct (kl K) X.hfl h b h1 e1) (va_cwO n X.hts hw rfl rfl rfl h00 hdn hR') ⟨pre.1, gRecv X rp.1 hci ho hoc, pre.2⟩ rfl hn hls hst (lv_room hW8) hdg hrm
theorem gFld_laid {args : Array Value} {s : State} {C O f d : String} {cf fi : Nat} {kf : Class} {fd : Field} (hl : (Cond.lays C O f d).before args s = true ∨ (Cond.laysFinal C O f d).before args s = true) (hi : s.fieldFound? O f d = some (cf, kf, fi, fd)) : ∃ c q, s.vm.findClass C = some c ∧ Jmm.declares? s.vm fd.slot (c + 1) c = some q ∧ q.1.name = kf.name := by
  rcases hl with h | h
  · obtain ⟨c, k, cf', kf', fi', fd', r1, r2, hi', -, -, -, -, q, g1, g2, -⟩ := Cond.lays_spec h
    cases hi.symm.trans hi'
    exact ⟨c, q, r1, g1, g2⟩
  · obtain ⟨c, k, cf', kf', fi', fd', r1, r2, hi', -, -, -, -, -, q, g1, g2, -⟩ := Cond.laysFinal_spec h
    cases hi.symm.trans hi'
    exact ⟨c, q, r1, g1, g2⟩
end
