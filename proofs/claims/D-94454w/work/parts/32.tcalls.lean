set_option maxRecDepth 100000
section
variable {K : gK} {cc : ByteArray} {nL : Nat} {own nm : String} {ret : Option FieldType} {fr lo : Nat} {pc : Nat} {lv : List (Nat × Value)} {st : List Value} {β : Type} {r : β} {am : Nat} {hn : gH} {ms m' : MS}
theorem t_pure {α : Type} {x y : α} (hd : TM.pure x ms = some (y, m')) (hK : kh1 K = mkM am hn m') : (Mo.pure x).1 (mkM am hn ms) = some (y, kh1 K) := by
  obtain ⟨rfl, rfl⟩ := TM.pure_some hd
  rw [hK]; rfl
theorem t_iret (X : gX K cc nL own nm (some .int) fr lo) {x y : Int32} (hK : kh1 K = mkM am hn m') (hd : TM.pure x ms = some (y, m')) (ho : ko K = .returned (some (.int y))) (hdg : decode cc pc = .ok (.ireturn, 1)) : V K nL (mkM am hn ms) pc lv [.int x] := v_iret X (t_pure hd hK) ho hdg
theorem t_zret (X : gX K cc nL own nm (some .boolean) fr lo) {x : Int32} {b y : Bool} (hK : kh1 K = mkM am hn m') (hd : TM.pure b ms = some (y, m')) (hx : x = b2i b) (ho : ko K = .returned (some (.int (b2i y)))) (hdg : decode cc pc = .ok (.ireturn, 1)) : V K nL (mkM am hn ms) pc lv [.int x] := v_zret X (t_pure hd hK) hx ho hdg
theorem t_lret (X : gX K cc nL own nm (some .long) fr lo) {x y : Int64} (hK : kh1 K = mkM am hn m') (hd : TM.pure x ms = some (y, m')) (ho : ko K = .returned (some (.long y))) (hdg : decode cc pc = .ok (.lreturn, 1)) : V K nL (mkM am hn ms) pc lv [.long x] := v_lret X (t_pure hd hK) ho hdg
theorem t_vret (X : gX K cc nL own nm none fr lo) {x y : Unit} (hK : kh1 K = mkM am hn m') (hd : TM.pure x ms = some (y, m')) (ho : ko K = .returned none) (hdg : decode cc pc = .ok (.return_, 1)) : V K nL (mkM am hn ms) pc lv [] := v_vret X (t_pure hd hK) ho hdg
theorem Tite_t {c : Prop} [Decidable c] {A B : TM β} {z : Option (β × MS)} (q : c) (hd : (if c then A else B) ms = z) : A ms = z := by rw [if_pos q] at hd; exact hd
theorem Tite_f {c : Prop} [Decidable c] {A B : TM β} {z : Option (β × MS)} (q : ¬ c) (hd : (if c then A else B) ms = z) : B ms = z := by rw [if_neg q] at hd; exact hd
theorem Tcnd_t {b : Bool} {A B : TM β} {z : Option (β × MS)} (q : b = true) (hd : (cond b A B) ms = z) : A ms = z := by subst q; exact hd
theorem Tcnd_f {b : Bool} {A B : TM β} {z : Option (β × MS)} (q : b = false) (hd : (cond b A B) ms = z) : B ms = z := by subst q; exact hd
theorem t_lvI {e : Int32} {f : Int32 → TM β} {z : Option (β × MS)} {h : gH} (hd : (TM.lv e f) ms = z) (k : ∀ v, f v ms = z → V K nL h pc lv (.int v :: st)) : V K nL h pc lv (.int e :: st) := k e hd
theorem t_lvZ {e : Bool} {f : Bool → TM β} {z : Option (β × MS)} {h : gH} (hd : (TM.lv e f) ms = z) (k : ∀ v, f v ms = z → V K nL h pc lv (.int (b2i v) :: st)) : V K nL h pc lv (.int (b2i e) :: st) := k e hd
theorem t_lvL {e : Int64} {f : Int64 → TM β} {z : Option (β × MS)} {h : gH} (hd : (TM.lv e f) ms = z) (k : ∀ v, f v ms = z → V K nL h pc lv (.long v :: st)) : V K nL h pc lv (.long e :: st) := k e hd
theorem t_iincL (X : gX K cc nL own nm ret fr lo) {i : Nat} {n : Int} {x n2 : Int32} {lv2 : Int32 → List (Nat × Value)} {f : Int32 → TM β} {z : Option (β × MS)} {h : gH} (hd : (TM.lv (x + n2) f) ms = z) (hdg : decode cc pc = .ok (.iinc i n, 3)) (q : Nat) (hk : lv[q]? = some (i, .int x)) (hn2 : Int32.ofInt n = n2) (hn : i < nL) (hl2 : ∀ v, (i, Value.int v) :: lv.filter (fun q => !(q.1 == i) && !(q.1 + 1 == i && q.2.category == 2)) = lv2 v) (k : ∀ v, f v ms = z → V K nL h (pc + 3) (lv2 v) st) : V K nL h pc lv st :=
  v_iinc X hdg q hk (by rw [hn2]) hn (hl2 _) (k _ hd)
theorem Tloop_ind {S E : Type} {b : S → TM (S ⊕ E)} {s : S} {m : MS} {e : E} {m1 : MS} (hl : TM.loop b s m = some (e, m1)) (P : S → MS → Prop)
    (step : ∀ (s : S) (m : MS) (x : S ⊕ E) (m2 : MS), b s m = some (x, m2) → (∀ s', x = .inl s' → P s' m2) → (∀ e', x = .inr e' → e' = e ∧ m2 = m1) → P s m) : P s m := by
  obtain ⟨n, hn⟩ := TM.loop_iff.mp hl
  clear hl
  induction n generalizing s m with
  | zero => cases hn
  | succ n ih =>
    unfold mIt at hn
    cases hx : b s m with
    | none => rw [hx] at hn; cases hn
    | some q =>
      obtain ⟨x, m2⟩ := q
      rw [hx] at hn
      cases x with
      | inl s' => exact step s m _ m2 hx (fun s2 e2 => by cases e2; exact ih hn) (fun e2 e3 => by cases e3)
      | inr e2 =>
        cases hn
        exact step s m _ _ hx (fun s2 e3 => by cases e3) (fun e3 e4 => by cases e4; exact ⟨rfl, rfl⟩)
theorem Tlp_in {S E : Type} {s' : S} {x : S ⊕ E} {m2 : MS} {P : S → MS → Prop} (hd : (TM.pure (Sum.inl s' : S ⊕ E)) ms = some (x, m2)) (ih : ∀ s', x = .inl s' → P s' m2) : P s' ms := by
  obtain ⟨e1, rfl⟩ := TM.pure_some hd
  exact ih _ e1
theorem Tlp_out {S E : Type} {e0 e : E} {x : S ⊕ E} {m2 m1 : MS} (hd : (TM.pure (Sum.inr e0 : S ⊕ E)) ms = some (x, m2)) (ho : ∀ e', x = .inr e' → e' = e ∧ m2 = m1) : (TM.pure e0) ms = some (e, m1) := by
  obtain ⟨e1, rfl⟩ := TM.pure_some hd
  obtain ⟨rfl, rfl⟩ := ho _ e1
  rfl
theorem t_at {m2 : MS} {α : Type} {x y : α} {P : α → MS → Prop} (hd : (TM.pure x) ms = some (y, m2)) (k : P y m2) : P x ms := by
  obtain ⟨rfl, rfl⟩ := TM.pure_some hd
  exact k
variable {α : Type} {F : TM α} {f : α → TM β} {y : MethodName} {cy : ByteArray} {nLy fry loy : Nat} {rety : Option FieldType} {av : List Value} {ov : α → Option Value}
theorem gCt.chk {G : gG} {g : Mo α} {cs : List Nat} {a : Nat} (ct : gCt G y cy nLy rety fry loy av g ov) : gCt G y cy nLy rety fry loy av (Mo.bind (chk cs a) (fun _ => g)) ov :=
  fun l hl h r h' e => ct l hl h r h' (chk_some e).2
/-- the answer b at the heap hB, and no other -/
noncomputable def Mo.got (b : α) (hB : gH) (b' : α) : Mo Unit := ⟨fun h => by
  classical
  exact if b' = b ∧ h = hB then some ((), h) else none, fun h r h' e => by
    classical
    dsimp only at e
    by_cases x : b' = b ∧ h = hB
    · rw [if_pos x] at e; cases e; exact gLe.rf
    · rw [if_neg x] at e; cases e⟩
theorem Mo.got_some {b b' : α} {hB h h' : gH} {u : Unit} (e : (Mo.got b hB b').1 h = some (u, h')) : b' = b ∧ h = hB := by
  classical
  have e : (if b' = b ∧ h = hB then some ((), h) else none : Option (Unit × gH)) = some (u, h') := e
  by_cases x : b' = b ∧ h = hB
  · exact x
  · rw [if_neg x] at e; cases e
theorem Mo.got_of {b : α} {hB : gH} : (Mo.got b hB b).1 hB = some ((), hB) := by
  classical
  show (if b = b ∧ hB = hB then some ((), hB) else none : Option (Unit × gH)) = _
  exact if_pos ⟨rfl, rfl⟩
theorem gLe_K {m1 m2 : MS} (hK : kh1 K = mkM am hn m1) : gLe (mkM am hn m2) (kh1 K) := by rw [hK]; exact mLe
theorem t_callS (X : gX K cc nL own nm ret fr lo) {mK : MS} (hK : kh1 K = mkM am hn mK) (hd : TM.bind F f ms = some (r, m')) (ct : gCtM (kG K) am y cy nLy rety fry loy av F ov) {index n : Nat} (hw : GoodIn lw_all (va_wsS own index y (ws_ y cy nLy rety))) (hdn : y.cls ≠ "java/lang/invoke/MethodHandle" ∧ y.cls ≠ "java/lang/invoke/VarHandle" ∧ (parseMethodDescriptor y.desc).map (fun d => d.parameters.length) = some n) (hnn : av.length = n)
    (hR : fry + 1 ≤ fr ∧ 8 + (nLy + 11) + loy ≤ lo) {st0 : List Value} (hst : st0 = av.reverse ++ st) (hW8 : (st.map fun v => v.category).sum ≤ 8) (hdg : decode cc pc = .ok (.invokestatic index, 3))
    (kk : ∀ (b : α) (m1 : MS), f b m1 = some (r, m') → V K nL (mkM am hn m1) (pc + 3) lv ((ov b).toList ++ st)) : V K nL (mkM am hn ms) pc lv st0 := by
  obtain ⟨b, m1, e1, e2⟩ := TM.bind_some hd
  have hdm : (Mo.bind (Mo.gr (mkM am hn ms) (mkM am hn m1) b mLe) (Mo.got b (mkM am hn m1))).1 (mkM am hn ms) = some ((), mkM am hn m1) := by
    rw [Mo.bind_of Mo.gr_of]; exact Mo.got_of
  refine v_callS X hdm (gLe_K hK) (ct hn ms b m1 e1) hw hdn hnn hR hst hW8 hdg (fun b' h1 e => ?_)
  obtain ⟨rfl, rfl⟩ := Mo.got_some e
  exact kk _ _ e2
theorem t_callV (X : gX K cc nL own nm ret fr lo) {As : List Value} {mK : MS} (hK : kh1 K = mkM am hn mK) (hd : TM.bind F f ms = some (r, m')) (ct : gCtM (kG K) am y cy nLy rety fry loy (.ref am :: As) F ov) {index n : Nat} (hw : GoodIn lw_all (wsV own index RX10 y (ws_ y cy nLy rety))) (hdn : y.cls = RX10 ∧ y.cls ≠ "java/lang/invoke/MethodHandle" ∧ y.cls ≠ "java/lang/invoke/VarHandle" ∧ (parseMethodDescriptor y.desc).map (fun d => d.parameters.length) = some n) (hnn : As.length = n)
    (hR : fry + 1 ≤ fr ∧ 8 + (nLy + 11) + loy ≤ lo) {st0 : List Value} (hst : st0 = As.reverse ++ .ref am :: st) (hW8 : (st.map fun v => v.category).sum ≤ 8) (hdg : decode cc pc = .ok (.invokevirtual index, 3))
    (kk : ∀ (b : α) (m1 : MS), f b m1 = some (r, m') → V K nL (mkM am hn m1) (pc + 3) lv ((ov b).toList ++ st)) : V K nL (mkM am hn ms) pc lv st0 := by
  obtain ⟨b, m1, e1, e2⟩ := TM.bind_some hd
  have hc : (Mo.bind (chk [8] am) (fun _ => Mo.gr (mkM am hn ms) (mkM am hn m1) b mLe)).1 (mkM am hn ms) = some (b, mkM am hn m1) := by
    have e0 : (chk [8] am).1 (mkM am hn ms) = some ((), mkM am hn ms) := by
      have hg : gOk [8] (some am) (mkM am hn ms) = true := by
        unfold gOk
        simp only [mkM_o]
        simp
      show (if gOk [8] (some am) (mkM am hn ms) = true then some () else none).map (fun a => (a, mkM am hn ms)) = _
      rw [if_pos hg]; rfl
    rw [Mo.bind_of e0]; exact Mo.gr_of
  have hdm : (Mo.bind (Mo.bind (chk [8] am) (fun _ => Mo.gr (mkM am hn ms) (mkM am hn m1) b mLe)) (Mo.got b (mkM am hn m1))).1 (mkM am hn ms) = some ((), mkM am hn m1) := by
    rw [Mo.bind_of hc]; exact Mo.got_of
  refine v_callV X hdm (gLe_K hK) (gCt.chk (ct hn ms b m1 e1)) gCl_X10 hw hdn hnn hR hst hW8 hdg (fun b' h1 e => ?_)
  obtain ⟨rfl, rfl⟩ := Mo.got_some e
  exact kk _ _ e2
end
