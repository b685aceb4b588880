set_option maxRecDepth 100000
section
variable {K : gK} {cc : ByteArray} {nL : Nat} {own nm : String} {ret : Option FieldType} {fr lo : Nat} {h : gH} {pc : Nat} {lv : List (Nat × Value)} {st : List Value} {β : Type} {r : β} {h' : gH}
theorem gRp_push {e : gA} {H H1 : Heap} {locs : List Loc} {cells slots N : Nat} (rp : gRp K h H locs cells slots) (ha : gAt (kG K) h.2.1 e H1) (x2 : H1.size = h.2.1 + 1) (x3 : ∀ q : Nat, q < h.2.1 → H1[q]? = H[q]?) : gRp K (va_up h.1 h.2.1 e, h.2.1 + 1, h.2.2 + N) H1 locs (cells + 1) (slots + N) := by
  have a1 := rp.2.1.1; have a2 := rp.1.1; have a3 := rp.2.2.1; have a4 := rp.2.2.2
  refine ⟨rp.1.push ha x2 x3, ⟨by omega, fun q q1 q2 => ?_, rp.2.1.2.2⟩, ?_, ?_⟩
  · rw [x3 q (by omega)]
    exact rp.2.1.2.1 q q1 q2
  · show cells + 1 + _ = h.2.1 + 1; omega
  · show slots + N + _ = h.2.2 + N; omega
theorem nwI_some {kd : Nat} {n : Int32} {f : Nat → Mo β} (hd : (Mo.bind (nwI kd n) f).1 h = some (r, h')) : ¬ n < 0 ∧ n.toNatClampNeg ≤ 100000 ∧ (f h.2.1).1 (va_up h.1 h.2.1 (.inl (kd, n.toNatClampNeg, .inl (fun _ => 0))), h.2.1 + 1, h.2.2 + n.toNatClampNeg) = some (r, h') := by
  obtain ⟨q, h1, e1, e2⟩ := Mo.bind_some hd
  have e1 : (if n < 0 ∨ 100000 < n.toNatClampNeg then none else some (h.2.1, (va_up h.1 h.2.1 (.inl (kd, n.toNatClampNeg, .inl (fun _ => 0))), h.2.1 + 1, h.2.2 + n.toNatClampNeg)) : Option (Nat × gH)) = some (q, h1) := e1
  by_cases z : n < 0 ∨ 100000 < n.toNatClampNeg
  · rw [if_pos z] at e1; cases e1
  · rw [if_neg z] at e1
    cases e1
    exact ⟨fun y => z (Or.inl y), Nat.not_lt.mp fun y => z (Or.inr y), e2⟩
theorem v_newI (X : gX K cc nL own nm ret fr lo) {kd : Nat} {n : Int32} {f : Nat → Mo β} {at0 : ArrayType} (hd : (Mo.bind (nwI kd n) f).1 h = some (r, h')) (hle : gLe h' (kh1 K)) (q0 : Nat) {ty : FieldType} (h0 : (gTys (kG K))[q0]? = some ((kG K).2.2.1 kd, ty)) (hty : newarray.typeOf at0 = ty) (hdf : defaultValue ty = .int 0) (hnr : ∀ C, ty ≠ .object C) (hcb : componentBytes ty ≤ 8) (hac : Cond.arrayClass ty ∈ lw_all) (hdg : decode cc pc = .ok (.newarray at0, 2)) (kk : ∀ (q : Nat) (h2 : gH), (f q).1 h2 = some (r, h') → V K nL h2 (pc + 2) lv (.ref q :: st)) : V K nL h pc lv (.int n :: st) := by
  subst hty
  intro ls hl H locs cells slots rp
  obtain ⟨z1, z2, e2⟩ := nwI_some hd
  have hl2 := ((f _).2 _ _ _ e2).tr hle
  obtain ⟨m1, m2⟩ := gRp_room X (n := 1) (k := n.toNatClampNeg) rp rfl rfl hl2
  refine va_newaK X.hx X.hb (X.hts _ hac) rfl hdg rfl z1 rfl (Nat.le_trans (Nat.mul_le_mul z2 hcb) (by decide)) m1 m2 rp.1.1 fun H1 cA x1 x2 x3 x4 x5 => ?_
  have hra := (X.hW.2.1.2 q0 _ h0).2
  have hcA : cA = (kG K).2.2.1 kd := by
    have : (ks K).vm.findClass ("[" ++ (newarray.typeOf at0).toString) = some ((kG K).2.2.1 kd) := by
      revert hra hnr
      generalize newarray.typeOf at0 = t
      intro hnr hra
      cases t <;> first | exact hra | exact absurd rfl (hnr _)
    exact Option.some.inj (x5.symm.trans this)
  rw [hcA, hdf] at x1
  exact kk _ _ e2 ls hl H1 locs _ _ (gRp_push rp x1 x2 x3)
theorem nwL_some {n : Int32} {f : Nat → Mo β} (hd : (Mo.bind (nwL n) f).1 h = some (r, h')) : ¬ n < 0 ∧ n.toNatClampNeg ≤ 100000 ∧ (f h.2.1).1 (va_up h.1 h.2.1 (.inl (1, n.toNatClampNeg, .inr (.inl (fun _ => 0)))), h.2.1 + 1, h.2.2 + n.toNatClampNeg) = some (r, h') := by
  obtain ⟨q, h1, e1, e2⟩ := Mo.bind_some hd
  have e1 : (if n < 0 ∨ 100000 < n.toNatClampNeg then none else some (h.2.1, (va_up h.1 h.2.1 (.inl (1, n.toNatClampNeg, .inr (.inl (fun _ => 0)))), h.2.1 + 1, h.2.2 + n.toNatClampNeg)) : Option (Nat × gH)) = some (q, h1) := e1
  by_cases z : n < 0 ∨ 100000 < n.toNatClampNeg
  · rw [if_pos z] at e1; cases e1
  · rw [if_neg z] at e1
    cases e1
    exact ⟨fun y => z (Or.inl y), Nat.not_lt.mp fun y => z (Or.inr y), e2⟩
theorem v_newL (X : gX K cc nL own nm ret fr lo) {n : Int32} {f : Nat → Mo β} (hd : (Mo.bind (nwL n) f).1 h = some (r, h')) (hle : gLe h' (kh1 K)) (hac : Cond.arrayClass .long ∈ lw_all) (hdg : decode cc pc = .ok (.newarray .long, 2)) (kk : ∀ (q : Nat) (h2 : gH), (f q).1 h2 = some (r, h') → V K nL h2 (pc + 2) lv (.ref q :: st)) : V K nL h pc lv (.int n :: st) := by
  intro ls hl H locs cells slots rp
  obtain ⟨z1, z2, e2⟩ := nwL_some hd
  have hl2 := ((f _).2 _ _ _ e2).tr hle
  obtain ⟨m1, m2⟩ := gRp_room X (n := 1) (k := n.toNatClampNeg) rp rfl rfl hl2
  refine va_newaK (atype := .long) X.hx X.hb (X.hts _ hac) rfl hdg rfl z1 rfl (Nat.le_trans (Nat.mul_le_mul z2 (show componentBytes .long ≤ 8 by decide)) (by decide)) m1 m2 rp.1.1 fun H1 cA x1 x2 x3 x4 x5 => ?_
  have hra : (ks K).vm.findClass ("[" ++ FieldType.long.toString) = some ((kG K).2.2.1 1) := (X.hW.2.1.2 1 _ rfl).2
  have hcA : cA = (kG K).2.2.1 1 := Option.some.inj (x5.symm.trans hra)
  rw [hcA] at x1
  exact kk _ _ e2 ls hl H1 locs _ _ (gRp_push rp x1 x2 x3)
theorem nwR_some {kd : Nat} {n : Int32} {f : Nat → Mo β} (hd : (Mo.bind (nwR kd n) f).1 h = some (r, h')) : ¬ n < 0 ∧ n.toNatClampNeg ≤ 100000 ∧ (f h.2.1).1 (va_up h.1 h.2.1 (.inl (kd, n.toNatClampNeg, .inr (.inr (fun _ => none)))), h.2.1 + 1, h.2.2 + n.toNatClampNeg) = some (r, h') := by
  obtain ⟨q, h1, e1, e2⟩ := Mo.bind_some hd
  have e1 : (if n < 0 ∨ 100000 < n.toNatClampNeg then none else some (h.2.1, (va_up h.1 h.2.1 (.inl (kd, n.toNatClampNeg, .inr (.inr (fun _ => none)))), h.2.1 + 1, h.2.2 + n.toNatClampNeg)) : Option (Nat × gH)) = some (q, h1) := e1
  by_cases z : n < 0 ∨ 100000 < n.toNatClampNeg
  · rw [if_pos z] at e1; cases e1
  · rw [if_neg z] at e1
    cases e1
    exact ⟨fun y => z (Or.inl y), Nat.not_lt.mp fun y => z (Or.inr y), e2⟩
theorem v_newR (X : gX K cc nL own nm ret fr lo) {kd index : Nat} {n : Int32} {f : Nat → Mo β} (hd : (Mo.bind (nwR kd n) f).1 h = some (r, h')) (hle : gLe h' (kh1 K)) (q0 : Nat) {E : String} (h0 : (gTys (kG K))[q0]? = some ((kG K).2.2.1 kd, .object E)) (hcl : Cond.classLink own index E ∈ lw_all) (hao : E ∈ gNO) (hdg : decode cc pc = .ok (.anewarray index, 3)) (kk : ∀ (q : Nat) (h2 : gH), (f q).1 h2 = some (r, h') → V K nL h2 (pc + 3) lv (.ref q :: st)) : V K nL h pc lv (.int n :: st) := by
  intro ls hl H locs cells slots rp
  obtain ⟨z1, z2, e2⟩ := nwR_some hd
  have hl2 := ((f _).2 _ _ _ e2).tr hle
  obtain ⟨m1, m2⟩ := gRp_room X (n := 1) (k := n.toNatClampNeg) rp rfl rfl hl2
  refine W.anew X.hx X.hb X.hown (X.hts _ hcl) (va_AO.use (X.hW.2.2.1.2.2.2.2.1 _ hao)) rfl hdg rfl z1 (Nat.le_trans (Nat.mul_le_mul z2 (Nat.le_refl 4)) (by decide)) m1 m2 fun cA kA comp f1 f2 f3 f4 => ?_
  obtain ⟨kA', comp', k1, k2, k3, k4⟩ := (X.hW.2.1.2 q0 _ h0).2
  have hcA : cA = (kG K).2.2.1 kd := Option.some.inj (f1.symm.trans k4)
  generalize hH1 : H.push ({ cls := cA, slots := Array.replicate n.toNatClampNeg .null, vm := .none } : Cell) = H1
  have y2 : H1.size = h.2.1 + 1 := by rw [← hH1, Array.size_push, rp.1.1]
  have y1 : H1[h.2.1]? = some (arrV cA n.toNatClampNeg (fun _ => .null)) := by rw [← hH1, ← rp.1.1, Array.getElem?_push_size, ← arrV_new]
  have y3 : ∀ q : Nat, q < h.2.1 → H1[q]? = H[q]? := fun q hq => by rw [← hH1, Array.getElem?_push, if_neg (by rw [rp.1.1]; omega)]
  rw [hcA] at y1
  rw [show (H.size : Nat) = h.2.1 from rp.1.1]
  refine kk _ _ e2 ls hl H1 locs _ _ (gRp_push rp ?_ y2 y3)
  show H1[h.2.1]? = some (arrV ((kG K).2.2.1 kd) n.toNatClampNeg (fun j => va_rf (gS (kG K) kd none)))
  rw [y1]
  have : ∀ k, va_rf (gS (kG K) k none) = .null := fun k => by unfold gS; split <;> rfl
  simp only [this]
/-! ===== ends ===== -/
theorem gW_end (X : gX K cc nL own nm ret fr lo) {H : Heap} {locs : List Loc} {cells slots : Nat} (rp : gRp K h H locs cells slots) {t : State} (ht : t.heap = H) (hW : (ks K).WarmedH t.vm) : gW (kG K) h t ∧ ∀ q : Nat, q < (kG K).1 → t.heap[q]? = (ks K).heap[q]? := by
  have hsz : (kG K).1 ≤ (ks K).heap.size := by rw [X.hW.1.1]; exact X.hW.1.2.1
  have hk : ∀ q : Nat, q < (ks K).heap.size → ¬ gY (kG K) q → H[q]? = (ks K).heap[q]? := rp.2.1.2.1
  refine ⟨⟨by rw [ht]; exact rp.1, va_K.moved hW.alike X.hW.2.1, gN.warm hW X.hW.2.2.1, ?_⟩, fun q hq => ?_⟩
  · rw [ht]; exact gOd.warm hW (X.hW.2.2.2.kept hk)
  · rw [ht]; exact hk q (by omega) (fun z => by have : (kG K).1 ≤ q := z; omega)
theorem W_mono {p : Program} {l : Launch} {e : Env} {R : Room} {s : State} {m : MethodId} {args : Array Value} {below : List Frame} {meth : Method} {c : Code} {H : Heap} {locs : List Loc} {cells slots : Nat} {Q Q' : State → Prop} {g : JFrame} (hq : ∀ t, Q t → Q' t) (w : W p l e R s m args below meth c H locs cells slots Q g) : W p l e R s m args below meth c H locs cells slots Q' g := by
  intro T hT X
  obtain ⟨t, a, b⟩ := w T hT X
  exact ⟨t, a, hq t b⟩
theorem gMQ_of {cells slots : Nat} {v : Option Value} (ho : ko K = .returned v) (h1 : cells + (kh0 K).2.1 = (kh1 K).2.1) (h2 : slots + (kh0 K).2.2 = (kh1 K).2.2) (t : State) (hm : MQ (kb K) (fun a s o t => o = .returned v ∧ gQc (kG K) (.returned v) (kh1 K) a s o t) (ka K) (ks K) cells slots (gY (kG K)) t) : gMQ K t := by
  obtain ⟨o, b1, b2, ⟨rfl, b3⟩, L, ⟨-, b4, b5⟩, b6⟩ := hm
  have e1 : (kh1 K).2.1 - (kh0 K).2.1 = cells := by omega
  have e2 : (kh1 K).2.2 - (kh0 K).2.2 = slots := by omega
  refine ⟨b1, by rw [ho]; exact b2, by rw [ho]; exact b3, b4, L, ?_, b6⟩
  rw [e1, e2]
  exact b5
theorem v_iret (X : gX K cc nL own nm (some .int) fr lo) {x y : Int32} (hd : (Mo.pure x).1 h = some (y, kh1 K)) (ho : ko K = .returned (some (.int y))) (hdg : decode cc pc = .ok (.ireturn, 1)) : V K nL h pc lv [.int x] := by
  obtain ⟨rfl, hh⟩ := Mo.pure_some hd
  intro ls hl H locs cells slots rp
  have hlk := X.hlk
  exact W_mono (gMQ_of ho (by rw [hh]; exact rp.2.2.1) (by rw [hh]; exact rp.2.2.2)) (W.iret X.hx X.hb X.hret (fun t ht hW => ⟨rfl, rfl, by rw [hh]; exact (gW_end X rp ht hW).1, (gW_end X rp ht hW).2⟩) rp.2.1.2.2 hdg hlk)
theorem b2i_nar (b : Bool) : narrow .boolean (.int (b2i b)) = .int (b2i b) := by cases b <;> decide
theorem v_zret (X : gX K cc nL own nm (some .boolean) fr lo) {x : Int32} {b y : Bool} (hd : (Mo.pure b).1 h = some (y, kh1 K)) (hx : x = b2i b) (ho : ko K = .returned (some (.int (b2i y)))) (hdg : decode cc pc = .ok (.ireturn, 1)) : V K nL h pc lv [.int x] := by
  obtain ⟨rfl, hh⟩ := Mo.pure_some hd
  subst hx
  intro ls hl H locs cells slots rp
  have hlk := X.hlk
  exact W_mono (gMQ_of ho (by rw [hh]; exact rp.2.2.1) (by rw [hh]; exact rp.2.2.2)) (W.zret X.hx X.hb X.hret (b2i_nar _) (fun t ht hW => ⟨rfl, rfl, by rw [hh]; exact (gW_end X rp ht hW).1, (gW_end X rp ht hW).2⟩) rp.2.1.2.2 hdg hlk)
theorem v_lret (X : gX K cc nL own nm (some .long) fr lo) {x y : Int64} (hd : (Mo.pure x).1 h = some (y, kh1 K)) (ho : ko K = .returned (some (.long y))) (hdg : decode cc pc = .ok (.lreturn, 1)) : V K nL h pc lv [.long x] := by
  obtain ⟨rfl, hh⟩ := Mo.pure_some hd
  intro ls hl H locs cells slots rp
  have hlk := X.hlk
  exact W_mono (gMQ_of ho (by rw [hh]; exact rp.2.2.1) (by rw [hh]; exact rp.2.2.2)) (W.lret X.hx X.hb X.hret (fun t ht hW => ⟨rfl, rfl, by rw [hh]; exact (gW_end X rp ht hW).1, (gW_end X rp ht hW).2⟩) rp.2.1.2.2 hdg hlk)
theorem v_vret (X : gX K cc nL own nm none fr lo) {x y : Unit} (hd : (Mo.pure x).1 h = some (y, kh1 K)) (ho : ko K = .returned none) (hdg : decode cc pc = .ok (.return_, 1)) : V K nL h pc lv [] := by
  obtain ⟨rfl, hh⟩ := Mo.pure_some hd
  intro ls hl H locs cells slots rp
  have hlk := X.hlk
  exact W_mono (gMQ_of ho (by rw [hh]; exact rp.2.2.1) (by rw [hh]; exact rp.2.2.2)) (W.vret X.hx X.hb X.hret (fun t ht hW => ⟨rfl, rfl, by rw [hh]; exact (gW_end X rp ht hW).1, (gW_end X rp ht hW).2⟩) rp.2.1.2.2 hdg hlk)
theorem v_aret (X : gX K cc nL own nm ret fr lo) {rt : FieldType} (hrt0 : ret = some rt) (hrt : (∃ n, rt = .object n) ∨ ∃ t, rt = .array t) {x y : Nat} (hd : (Mo.pure x).1 h = some (y, kh1 K)) (ho : ko K = .returned (some (.ref y))) (hdg : decode cc pc = .ok (.areturn, 1)) : V K nL h pc lv [.ref x] := by
  obtain ⟨rfl, hh⟩ := Mo.pure_some hd
  subst hrt0
  intro ls hl H locs cells slots rp
  have hlk := X.hlk
  exact W_mono (gMQ_of ho (by rw [hh]; exact rp.2.2.1) (by rw [hh]; exact rp.2.2.2)) (W.aret X.hx X.hb X.hret hrt (Or.inr ⟨_, rfl⟩) (fun t ht hW => ⟨rfl, rfl, by rw [hh]; exact (gW_end X rp ht hW).1, (gW_end X rp ht hW).2⟩) rp.2.1.2.2 hdg hlk)
end
