set_option maxRecDepth 100000
def Mo.cs {α β : Type} (v : Nat ⊕ α) (f : Nat → Mo β) (g : α → Mo β) : Mo β := match v with
  | .inl b => f b
  | .inr x => g x
theorem cs_r {α β : Type} {x : α} {f : Nat → Mo β} {g : α → Mo β} {h : gH} {z : Option (β × gH)} (hd : (Mo.cs (.inr x) f g).1 h = z) : (g x).1 h = z := hd
theorem cs_l {α β : Type} {b : Nat} {f : Nat → Mo β} {g : α → Mo β} {h : gH} {z : Option (β × gH)} (hd : (Mo.cs (.inl b) f g).1 h = z) : (f b).1 h = z := hd
theorem px_inr {α : Type} {x : α} {r : Nat ⊕ α} {h h' : gH} (hd : (Mo.pure (Sum.inr x : Nat ⊕ α)).1 h = some (r, h')) : r = .inr x ∧ (Mo.pure x).1 h = some (x, h') := by
  obtain ⟨rfl, rfl⟩ := Mo.pure_some hd
  exact ⟨rfl, rfl⟩
theorem px_inl {α : Type} {b : Nat} {r : Nat ⊕ α} {h h' : gH} (hd : (Mo.pure (Sum.inl b : Nat ⊕ α)).1 h = some (r, h')) : r = .inl b ∧ h' = h := Mo.pure_some hd
def clsOf (a : Nat) : Mo Nat := Mo.rd fun h => match h.1 a with
  | .inr o => some o.1
  | .inl _ => none
section
variable {K : gK} {cc : ByteArray} {nL : Nat} {own nm : String} {ret : Option FieldType} {fr lo : Nat} {h : gH} {pc : Nat} {lv : List (Nat × Value)} {st : List Value} {β : Type} {r : β} {h' : gH}
variable {α : Type} {f : Mo α} {g : α → Mo β} {y : MethodName} {cy : ByteArray} {nLy fry loy : Nat} {rety : Option FieldType} {ov : α → Option Value}
theorem cls_some {a : Nat} {F : Nat → Mo α} (hd : (Mo.bind (Mo.bind (clsOf a) F) g).1 h = some (r, h')) : ∃ o, h.1 a = .inr o ∧ (Mo.bind (F o.1) g).1 h = some (r, h') := by
  obtain ⟨x, h1, e1, e2⟩ := Mo.bind_some hd
  obtain ⟨c, h2, e3, e4⟩ := Mo.bind_some e1
  obtain ⟨e5, rfl⟩ := Mo.rd_some e3
  cases ho : h2.1 a with
  | inl z => rw [ho] at e5; cases e5
  | inr o =>
    rw [ho] at e5
    cases e5
    exact ⟨o, rfl, by rw [Mo.bind_of e4]; exact e2⟩
theorem bite_t {c : Prop} [Decidable c] {A B : Mo α} (q : c) (hd : (Mo.bind (if c then A else B) g).1 h = some (r, h')) : (Mo.bind A g).1 h = some (r, h') := by rw [if_pos q] at hd; exact hd
theorem bite_f {c : Prop} [Decidable c] {A B : Mo α} (q : ¬ c) (hd : (Mo.bind (if c then A else B) g).1 h = some (r, h')) : (Mo.bind B g).1 h = some (r, h') := by rw [if_neg q] at hd; exact hd
/-- a call of an abstract method -/
theorem v_callA (X : gX K cc nL own nm ret fr lo) {b0 ci : Nat} {As : List Value} (hd : (Mo.bind f g).1 h = some (r, h')) (hle : gLe h' (kh1 K)) (ct : gCt (kG K) y cy nLy rety fry loy (.ref b0 :: As) f ov) {o : Nat × List Value} (ho : h.1 b0 = .inr o) (hoc : o.1 = ci) {rr : vw_C} (hci : gCl[ci]? = some rr) {index n : Nat} {owner : String} {x : MethodName} (hw : GoodIn lw_all (va_wsU own index rr.1 owner x y (ws_ y cy nLy rety))) (hz : (⟨owner, x.name, x.desc⟩ : MethodName) ∈ gND) (hdn : owner ≠ "java/lang/invoke/MethodHandle" ∧ owner ≠ "java/lang/invoke/VarHandle" ∧ (parseMethodDescriptor x.desc).map (fun d => d.parameters.length) = some n) (hn : As.length = n)
    (hR : fry + 1 ≤ fr ∧ 8 + (nLy + 11) + loy ≤ lo) {st0 : List Value} (hst : st0 = As.reverse ++ .ref b0 :: st) (hW8 : (st.map fun v => v.category).sum ≤ 8) (hdg : decode cc pc = .ok (.invokevirtual index, 3))
    (kk : ∀ (b : α) (h1 : gH), (g b).1 h1 = some (r, h') → V K nL h1 (pc + 3) lv ((ov b).toList ++ st)) : V K nL h pc lv st0 := by
  refine v_back X hd hle (a := (Value.ref b0 :: As).toArray) (fun ls H locs cells slots b h1 hls rp e1 hrm => ?_) kk
  have hR' : fry + 1 ≤ (kR K).frames ∧ 8 + (nLy + 11) + loy ≤ (kR K).locals := by rw [X.hR.1, X.hR.2.1]; exact hR
  have pre := gPre X rp (.ref b0 :: As)
  exact va_runU (As := As) (C := rr.1) ⟨X.hx, X.hb, X.hml, X.hown, X.hts⟩ (ct (kl K) X.hfl h b h1 e1) (va_cwA n X.hts hw rfl rfl rfl (X.hW.2.2.1.2.2.2.1 _ hz) hdn hR') ⟨pre.1, gRecv X rp.1 hci ho hoc, pre.2⟩ rfl hn hls hst (lv_room hW8) hdg hrm
end
