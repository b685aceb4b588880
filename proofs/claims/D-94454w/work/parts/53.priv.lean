set_option maxRecDepth 100000
section
variable {K : gK} {cc : ByteArray} {nL : Nat} {own nm : String} {ret : Option FieldType} {fr lo : Nat} {h : gH} {pc : Nat} {lv : List (Nat × Value)} {st : List Value} {β : Type} {r : β} {h' : gH}
variable {α : Type} {f : Mo α} {g : α → Mo β} {y : MethodName} {cy : ByteArray} {nLy fry loy : Nat} {rety : Option FieldType} {ov : α → Option Value}
/-- a call of a private method on receivers of heirs -/
theorem v_callUP (X : gX K cc nL own nm ret fr lo) {b0 : Nat} {cs : List Nat} {As : List Value} (hd : (Mo.bind (Mo.bind (chk cs b0) (fun _ => f)) g).1 h = some (r, h')) (hle : gLe h' (kh1 K)) (ct : gCt (kG K) y cy nLy rety fry loy (.ref b0 :: As) f ov) {index n : Nat} (hs : ∀ ci ∈ cs, ∃ rr : vw_C, gCl[ci]? = some rr ∧ (rr.1, y) ∈ gNS) (q1 : Cond.methodLink own index y ∈ lw_all) (q2 : Cond.sameMethod y.cls y.cls y.name y.desc ∈ lw_all) (q3 : Cond.instanceMethod y ∈ lw_all) (q4 : Cond.initialized y.cls ∈ lw_all) (q5 : Cond.code y cy nLy rety ∈ lw_all) (hdn : y.cls ≠ "java/lang/invoke/MethodHandle" ∧ y.cls ≠ "java/lang/invoke/VarHandle" ∧ (parseMethodDescriptor y.desc).map (fun d => d.parameters.length) = some n) (hn : As.length = n)
    (hR : fry + 1 ≤ fr ∧ 8 + (nLy + 11) + loy ≤ lo) {st0 : List Value} (hst : st0 = As.reverse ++ .ref b0 :: st) (hW8 : (st.map fun v => v.category).sum ≤ 8) (hdg : decode cc pc = .ok (.invokevirtual index, 3))
    (kk : ∀ (b : α) (h1 : gH), (g b).1 h1 = some (r, h') → V K nL h1 (pc + 3) lv ((ov b).toList ++ st)) : V K nL h pc lv st0 := by
  refine v_back X hd hle (a := (Value.ref b0 :: As).toArray) (fun ls H locs cells slots b h1 hls rp e1 hrm => ?_) kk
  have hR' : fry + 1 ≤ (kR K).frames ∧ 8 + (nLy + 11) + loy ≤ (kR K).locals := by rw [X.hR.1, X.hR.2.1]; exact hR
  obtain ⟨⟨o, e3, e4⟩, e5⟩ := chk_some e1
  obtain ⟨rr, hci, hsel⟩ := hs _ e4
  have pre := gPre X rp (.ref b0 :: As)
  have hG : GoodIn lw_all (ws_ y cy nLy rety) := lw_meth q5
  have cw : va_CU (kR K) (ks K) (ka K) own rr.1 y.cls index y y cy nLy rety (ws_ y cy nLy rety) ({ frames := fry, cells := h1.2.1 - h.2.1, slots := h1.2.2 - h.2.2, locals := loy }) (h1.2.1 - h.2.1) (h1.2.2 - h.2.2) n :=
    ⟨⟨rfl, rfl, hR'.1, hR'.2, pay_in X.hts hG, List.mem_cons_self⟩, X.hts _ q5, X.hts _ q4, ⟨hdn.1, hdn.2.1⟩, fun sig hh => (dn_len hdn.2.2 rfl sig hh), X.hts _ q1, X.hts _ q2, va_Decl.of (X.hts _ q3) (X.hts _ q5), va_Nw.use rfl (X.hW.2.2.1.2.2.2.2.2 (rr.1, y) hsel), X.hts _ q3⟩
  exact va_runU (As := As) (C := rr.1) ⟨X.hx, X.hb, X.hml, X.hown, X.hts⟩ (ct (kl K) X.hfl h b h1 e5) cw ⟨pre.1, gRecv X rp.1 hci e3 rfl, pre.2⟩ rfl hn hls hst (lv_room hW8) hdg hrm
theorem gNS_of (m : Nat) (y : MethodName) (h5 : gNS[3 * m]? = some ("BitingDoors$HouseReader", y)) (h6 : gNS[3 * m + 1]? = some ("BitingDoors$DayReader", y)) (h7 : gNS[3 * m + 2]? = some ("BitingDoors$SentenceReader", y)) : ∀ ci ∈ [5, 6, 7], ∃ rr : vw_C, gCl[ci]? = some rr ∧ (rr.1, y) ∈ gNS := by
  intro ci hc
  simp only [List.mem_cons, List.not_mem_nil, or_false] at hc
  rcases hc with rfl | rfl | rfl
  · exact ⟨_, gCl_X7, List.mem_of_getElem? h5⟩
  · exact ⟨_, gCl_X8, List.mem_of_getElem? h6⟩
  · exact ⟨_, gCl_X9, List.mem_of_getElem? h7⟩
end
