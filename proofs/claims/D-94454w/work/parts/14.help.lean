set_option maxRecDepth 100000
section
variable {K : gK} {cc : ByteArray} {nL : Nat} {own nm : String} {ret : Option FieldType} {fr lo : Nat} {h : gH} {pc : Nat} {lv : List (Nat × Value)} {st : List Value} {β : Type} {r : β} {h' : gH}
theorem ite_t {c : Prop} [Decidable c] {A B : Mo β} {z : Option (β × gH)} (q : c) (hd : (if c then A else B).1 h = z) : A.1 h = z := by rw [if_pos q] at hd; exact hd
theorem ite_f {c : Prop} [Decidable c] {A B : Mo β} {z : Option (β × gH)} (q : ¬ c) (hd : (if c then A else B).1 h = z) : B.1 h = z := by rw [if_neg q] at hd; exact hd
theorem cnd_t {b : Bool} {A B : Mo β} {z : Option (β × gH)} (q : b = true) (hd : (cond b A B).1 h = z) : A.1 h = z := by subst q; exact hd
theorem cnd_f {b : Bool} {A B : Mo β} {z : Option (β × gH)} (q : b = false) (hd : (cond b A B).1 h = z) : B.1 h = z := by subst q; exact hd
theorem b2i_0 {b : Bool} : b2i b = 0 ↔ b = false := by cases b <;> decide
theorem v_ifZ_eq (X : gX K cc nL own nm ret fr lo) {b : Bool} {off : Int} {tgt : Nat} (hd : decode cc pc = .ok (.ifCond .eq off, 3)) (ht : (pc : Int) + off = (tgt : Int)) (kt : b = false → V K nL h tgt lv st) (kf : b = true → V K nL h (pc + 3) lv st) : V K nL h pc lv (.int (b2i b) :: st) :=
  v_if_eq X hd ht (fun q => kt (b2i_0.mp q)) (fun q => kf (by cases b; exact absurd rfl q; rfl))
theorem v_ifZ_ne (X : gX K cc nL own nm ret fr lo) {b : Bool} {off : Int} {tgt : Nat} (hd : decode cc pc = .ok (.ifCond .ne off, 3)) (ht : (pc : Int) + off = (tgt : Int)) (kt : b = true → V K nL h tgt lv st) (kf : b = false → V K nL h (pc + 3) lv st) : V K nL h pc lv (.int (b2i b) :: st) :=
  v_if_ne X hd ht (fun q => kt (by cases b; exact absurd rfl q; rfl)) (fun q => kf (b2i_0.mp q))
theorem loop_ind {S E : Type} {b : S → Mo (S ⊕ E)} {s : S} {h : gH} {e : E} {h1 : gH} (hl : (Mo.loop b s).1 h = some (e, h1)) (P : S → gH → Prop)
    (step : ∀ (s : S) (h : gH) (x : S ⊕ E) (h2 : gH), (b s).1 h = some (x, h2) → gLe h2 h1 → (∀ s', x = .inl s' → P s' h2) → (∀ e', x = .inr e' → e' = e ∧ h2 = h1) → P s h) : P s h := by
  obtain ⟨n, hn⟩ := Mo.loop_iff.mp hl
  clear hl
  induction n generalizing s h with
  | zero => cases hn
  | succ n ih =>
    unfold gIt at hn
    cases hx : (b s).1 h with
    | none => rw [hx] at hn; cases hn
    | some q =>
      obtain ⟨x, h2⟩ := q
      rw [hx] at hn
      cases x with
      | inl s' => exact step s h _ h2 hx (gIt_le _ _ _ _ _ hn) (fun s2 e2 => by cases e2; exact ih hn) (fun e2 e3 => by cases e3)
      | inr e2 =>
        cases hn
        exact step s h _ _ hx gLe.rf (fun s2 e3 => by cases e3) (fun e3 e4 => by cases e4; exact ⟨rfl, rfl⟩)
theorem lp_in {S E : Type} {s' : S} {x : S ⊕ E} {h2 : gH} {P : S → gH → Prop} (hd : (Mo.pure (Sum.inl s' : S ⊕ E)).1 h = some (x, h2)) (ih : ∀ s', x = .inl s' → P s' h2) : P s' h := by
  obtain ⟨e1, rfl⟩ := Mo.pure_some hd
  exact ih _ e1
theorem lp_out {S E : Type} {e0 e : E} {x : S ⊕ E} {h2 h1 : gH} (hd : (Mo.pure (Sum.inr e0 : S ⊕ E)).1 h = some (x, h2)) (ho : ∀ e', x = .inr e' → e' = e ∧ h2 = h1) : (Mo.pure e0).1 h = some (e, h1) := by
  obtain ⟨e1, rfl⟩ := Mo.pure_some hd
  obtain ⟨rfl, rfl⟩ := ho _ e1
  rfl
theorem v_at {h2 : gH} {α : Type} {x y : α} {P : α → gH → Prop} (hd : (Mo.pure x).1 h = some (y, h2)) (k : P y h2) : P x h := by
  obtain ⟨rfl, rfl⟩ := Mo.pure_some hd
  exact k
theorem v_objInit (X : gX K cc nL own nm ret fr lo) {a : Nat} {index : Nat} (h1 : Cond.methodLink own index objectInit ∈ lw_all) (h2 : Cond.instanceMethod objectInit ∈ lw_all) (h3 : Cond.code objectInit ⟨#[0xb1]⟩ 1 none ∈ lw_all) (hst : (st.map fun v => v.category).sum ≤ 8) (hdg : decode cc pc = .ok (.invokespecial index, 3)) (hfr : 1 ≤ fr) (hlo : 20 ≤ lo) (k : V K nL h (pc + 3) lv st) : V K nL h pc lv (.ref a :: st) := by
  intro ls hl H locs cells slots rp
  refine W.objInit X.hx X.hb X.hown (X.hts _ h1) (X.hts _ h2) (X.hts _ h3) rfl (by rw [X.hml]; exact hl.1) rfl hdg (by rw [X.hR.1]; exact hfr) ?_ (k ls hl H locs cells slots rp)
  rw [X.hR.2.1]
  have : 2 * (F0 (km K) pc ls (.ref a :: st)).monitorRoom = 0 := rfl
  omega
theorem gFin {args : Array Value} {s : State} {C : String} {T : u_T} {N k : Nat} (hts : ∀ w ∈ lw_all, w.before args s = true) (hin : ∀ w ∈ u_ws C T N, w ∈ lw_all) (hk : k < N) (hfin : (T k).2.2.2 = true) : ∀ cf kf fi fd, s.fieldFound? (T k).1 (T k).2.1 (T k).2.2.1 = some (cf, kf, fi, fd) → s.vm.findClass (T k).1 = some cf := by
  intro cf kf fi fd hi
  have hlay := hts _ (hin _ (u_in_lay hk))
  unfold u_lay at hlay
  rw [if_pos hfin] at hlay
  obtain ⟨_, _, c', _, _, _, -, -, hf', -, -, -, hown2, -⟩ := Cond.laysFinal_spec hlay
  have e1 : c' = cf := by have := hi.symm.trans hf'; simp at this; exact this.1.symm
  rw [← e1]; exact hown2
theorem fits_b2i (b : Bool) : fits .boolean (.int (b2i b)) = true := by cases b <;> decide
end
