set_option maxRecDepth 100000
/-! ===== runs by what is so behind them: one side (Ok), both sides (Two) ===== -/
def Ok {α σ : Type} (o : Option (α × σ)) (Q : α → σ → Prop) : Prop := ∃ a s, o = some (a, s) ∧ Q a s
theorem Ok.mk {α σ : Type} {o : Option (α × σ)} {Q : α → σ → Prop} {a : α} {s : σ} (e : o = some (a, s)) (h : Q a s) : Ok o Q := ⟨a, s, e, h⟩
theorem Ok.some {α σ : Type} {Q : α → σ → Prop} {a : α} {s : σ} (h : Q a s) : Ok (Option.some (a, s)) Q := ⟨a, s, rfl, h⟩
theorem Ok.imp {α σ : Type} {o : Option (α × σ)} {Q Q' : α → σ → Prop} (h : Ok o Q) (k : ∀ a s, Q a s → Q' a s) : Ok o Q' := by
  obtain ⟨a, s, e, q⟩ := h
  exact ⟨a, s, e, k a s q⟩
theorem Ok.pT {α : Type} {Q : α → MS → Prop} {a : α} {m : MS} (h : Q a m) : Ok (TM.pure a m) Q := ⟨a, m, rfl, h⟩
theorem Ok.pM {α : Type} {Q : α → gH → Prop} {a : α} {h : gH} (q : Q a h) : Ok ((Mo.pure a).1 h) Q := ⟨a, h, rfl, q⟩
theorem Ok.bT {α β : Type} {x : TM α} {f : α → TM β} {m : MS} {P : α → MS → Prop} {Q : β → MS → Prop} (h : Ok (x m) P) (k : ∀ a m', P a m' → Ok (f a m') Q) : Ok (TM.bind x f m) Q := by
  obtain ⟨a, m', e, p⟩ := h
  rw [t_of e]
  exact k a m' p
theorem Ok.bM {α β : Type} {x : Mo α} {f : α → Mo β} {h : gH} {P : α → gH → Prop} {Q : β → gH → Prop} (hx : Ok (x.1 h) P) (k : ∀ a h', P a h' → Ok ((f a).1 h') Q) : Ok ((Mo.bind x f).1 h) Q := by
  obtain ⟨a, h', e, p⟩ := hx
  rw [ev_call e]
  exact k a h' p
/-- what is so behind one turn of a loop -/
def lpQ {S E σ : Type} (J : S → σ → Prop) (Q : E → σ → Prop) : S ⊕ E → σ → Prop
  | .inl s, m => J s m
  | .inr e, m => Q e m
theorem Ok.loopT {S E : Type} {b : S → TM (S ⊕ E)} (I : Nat → S → MS → Prop) {Q : E → MS → Prop} (step : ∀ k s m, I k s m → Ok (b s m) (lpQ (fun s' m' => ∃ k', k' < k ∧ I k' s' m') Q)) : ∀ k s m, I k s m → Ok (TM.loop b s m) Q := by
  intro k
  induction k using Nat.strongRecOn with
  | ind k ih =>
    intro s m hI
    obtain ⟨r, m', e, q⟩ := step k s m hI
    cases r with
    | inl s' =>
      obtain ⟨k', hk, hI'⟩ := q
      rw [TM.loop_inl e]
      exact ih k' hk s' m' hI'
    | inr x => rw [TM.loop_inr e]; exact ⟨x, m', rfl, q⟩
theorem Ok.loopM {S E : Type} {b : S → Mo (S ⊕ E)} (I : Nat → S → gH → Prop) {Q : E → gH → Prop} (step : ∀ k s m, I k s m → Ok ((b s).1 m) (lpQ (fun s' m' => ∃ k', k' < k ∧ I k' s' m') Q)) : ∀ k s m, I k s m → Ok ((Mo.loop b s).1 m) Q := by
  intro k
  induction k using Nat.strongRecOn with
  | ind k ih =>
    intro s m hI
    obtain ⟨r, m', e, q⟩ := step k s m hI
    cases r with
    | inl s' =>
      obtain ⟨k', hk, hI'⟩ := q
      rw [Mo.loop_inl e]
      exact ih k' hk s' m' hI'
    | inr x => rw [Mo.loop_inr e]; exact ⟨x, m', rfl, q⟩
/-- a counted loop: at turn i of N it stands at c i -/
theorem Ok.forT {S E : Type} {b : S → TM (S ⊕ E)} (c : Nat → S) (N : Nat) (I : Nat → MS → Prop) {Q : E → MS → Prop} (step : ∀ i m, i < N → I i m → Ok (b (c i) m) (lpQ (fun s' m' => s' = c (i + 1) ∧ I (i + 1) m') Q)) (stop : ∀ m, I N m → Ok (b (c N) m) (lpQ (fun _ _ => False) Q)) {i : Nat} (hi : i ≤ N) {m : MS} (h : I i m) : Ok (TM.loop b (c i) m) Q := by
  refine Ok.loopT (I := fun k s m => ∃ i, i + k = N ∧ s = c i ∧ I i m) (fun k s m hk => ?_) (N - i) (c i) m ⟨i, by omega, rfl, h⟩
  obtain ⟨i, e, rfl, hI⟩ := hk
  by_cases hl : i < N
  · refine (step i m hl hI).imp fun r m' q => ?_
    cases r with
    | inl s' => exact ⟨k - 1, by omega, i + 1, by omega, q⟩
    | inr x => exact q
  · have : i = N := by omega
    subst this
    refine (stop m hI).imp fun r m' q => ?_
    cases r with
    | inl s' => exact q.elim
    | inr x => exact q
theorem Ok.forM {S E : Type} {b : S → Mo (S ⊕ E)} (c : Nat → S) (N : Nat) (I : Nat → gH → Prop) {Q : E → gH → Prop} (step : ∀ i m, i < N → I i m → Ok ((b (c i)).1 m) (lpQ (fun s' m' => s' = c (i + 1) ∧ I (i + 1) m') Q)) (stop : ∀ m, I N m → Ok ((b (c N)).1 m) (lpQ (fun _ _ => False) Q)) {i : Nat} (hi : i ≤ N) {m : gH} (h : I i m) : Ok ((Mo.loop b (c i)).1 m) Q := by
  refine Ok.loopM (I := fun k s m => ∃ i, i + k = N ∧ s = c i ∧ I i m) (fun k s m hk => ?_) (N - i) (c i) m ⟨i, by omega, rfl, h⟩
  obtain ⟨i, e, rfl, hI⟩ := hk
  by_cases hl : i < N
  · refine (step i m hl hI).imp fun r m' q => ?_
    cases r with
    | inl s' => exact ⟨k - 1, by omega, i + 1, by omega, q⟩
    | inr x => exact q
  · have : i = N := by omega
    subst this
    refine (stop m hI).imp fun r m' q => ?_
    cases r with
    | inl s' => exact q.elim
    | inr x => exact q
/-! both sides -/
def Two {α β : Type} (o : Option (α × gH)) (t : Option (β × MS)) (Q : α → gH → β → MS → Prop) : Prop := ∃ a h b m, o = some (a, h) ∧ t = some (b, m) ∧ Q a h b m
theorem Two.mk {α β : Type} {o : Option (α × gH)} {t : Option (β × MS)} {Q : α → gH → β → MS → Prop} {a : α} {h : gH} {b : β} {m : MS} (e1 : o = some (a, h)) (e2 : t = some (b, m)) (q : Q a h b m) : Two o t Q := ⟨a, h, b, m, e1, e2, q⟩
theorem Two.imp {α β : Type} {o : Option (α × gH)} {t : Option (β × MS)} {Q Q' : α → gH → β → MS → Prop} (h : Two o t Q) (k : ∀ a h b m, Q a h b m → Q' a h b m) : Two o t Q' := by
  obtain ⟨a, s, b, m, e, e', q⟩ := h
  exact ⟨a, s, b, m, e, e', k a s b m q⟩
theorem Two.pp {α β : Type} {Q : α → gH → β → MS → Prop} {a : α} {h : gH} {b : β} {m : MS} (q : Q a h b m) : Two ((Mo.pure a).1 h) (TM.pure b m) Q := ⟨a, h, b, m, rfl, rfl, q⟩
theorem Two.ok {α β : Type} {o : Option (α × gH)} {t : Option (β × MS)} {P : α → gH → Prop} {P' : β → MS → Prop} {Q : α → gH → β → MS → Prop} (h1 : Ok o P) (h2 : Ok t P') (k : ∀ a h b m, P a h → P' b m → Q a h b m) : Two o t Q := by
  obtain ⟨a, s, e, p⟩ := h1
  obtain ⟨b, m, e', p'⟩ := h2
  exact ⟨a, s, b, m, e, e', k a s b m p p'⟩
theorem Two.b {α β γ δ : Type} {x : Mo α} {f : α → Mo γ} {y : TM β} {g : β → TM δ} {h : gH} {m : MS} {P : α → gH → β → MS → Prop} {Q : γ → gH → δ → MS → Prop} (hx : Two (x.1 h) (y m) P) (k : ∀ a h' b m', P a h' b m' → Two ((f a).1 h') (g b m') Q) : Two ((Mo.bind x f).1 h) (TM.bind y g m) Q := by
  obtain ⟨a, h', b, m', e, e', p⟩ := hx
  rw [ev_call e, t_of e']
  exact k a h' b m' p
theorem Two.l {α β γ : Type} {x : Mo α} {f : α → Mo γ} {h : gH} {t : Option (β × MS)} {P : α → gH → Prop} {Q : γ → gH → β → MS → Prop} (hx : Ok (x.1 h) P) (k : ∀ a h', P a h' → Two ((f a).1 h') t Q) : Two ((Mo.bind x f).1 h) t Q := by
  obtain ⟨a, h', e, p⟩ := hx
  rw [ev_call e]
  exact k a h' p
theorem Two.r {α β δ : Type} {o : Option (α × gH)} {y : TM β} {g : β → TM δ} {m : MS} {P : β → MS → Prop} {Q : α → gH → δ → MS → Prop} (hy : Ok (y m) P) (k : ∀ b m', P b m' → Two o (g b m') Q) : Two o (TM.bind y g m) Q := by
  obtain ⟨a, h', e, p⟩ := hy
  rw [t_of e]
  exact k a h' p
def lpB {S E T F : Type} (J : S → gH → T → MS → Prop) (Q : E → gH → F → MS → Prop) : S ⊕ E → gH → T ⊕ F → MS → Prop
  | .inl s, h, .inl t, m => J s h t m
  | .inr e, h, .inr f, m => Q e h f m
  | _, _, _, _ => False
theorem Two.loop {S E T F : Type} {b : S → Mo (S ⊕ E)} {c : T → TM (T ⊕ F)} (I : Nat → S → gH → T → MS → Prop) {Q : E → gH → F → MS → Prop} (step : ∀ k s h t m, I k s h t m → Two ((b s).1 h) (c t m) (lpB (fun s' h' t' m' => ∃ k', k' < k ∧ I k' s' h' t' m') Q)) : ∀ k s h t m, I k s h t m → Two ((Mo.loop b s).1 h) (TM.loop c t m) Q := by
  intro k
  induction k using Nat.strongRecOn with
  | ind k ih =>
    intro s h t m hI
    obtain ⟨r, h', r', m', e, e', q⟩ := step k s h t m hI
    cases r with
    | inl s' =>
      cases r' with
      | inl t' =>
        obtain ⟨k', hk, hI'⟩ := q
        rw [Mo.loop_inl e, TM.loop_inl e']
        exact ih k' hk s' h' t' m' hI'
      | inr y => exact q.elim
    | inr x =>
      cases r' with
      | inl t' => exact q.elim
      | inr y => rw [Mo.loop_inr e, TM.loop_inr e']; exact ⟨x, h', y, m', rfl, rfl, q⟩
/-- both loops count alike -/
theorem Two.for {S E T F : Type} {b : S → Mo (S ⊕ E)} {c : T → TM (T ⊕ F)} (s : Nat → S) (t : Nat → T) (N : Nat) (I : Nat → gH → MS → Prop) {Q : E → gH → F → MS → Prop} (step : ∀ i h m, i < N → I i h m → Two ((b (s i)).1 h) (c (t i) m) (lpB (fun s' h' t' m' => s' = s (i + 1) ∧ t' = t (i + 1) ∧ I (i + 1) h' m') Q)) (stop : ∀ h m, I N h m → Two ((b (s N)).1 h) (c (t N) m) (lpB (fun _ _ _ _ => False) Q)) {i : Nat} (hi : i ≤ N) {h : gH} {m : MS} (h0 : I i h m) : Two ((Mo.loop b (s i)).1 h) (TM.loop c (t i) m) Q := by
  refine Two.loop (I := fun k s' h t' m => ∃ i, i + k = N ∧ s' = s i ∧ t' = t i ∧ I i h m) (fun k s' h t' m hk => ?_) (N - i) (s i) h (t i) m ⟨i, by omega, rfl, rfl, h0⟩
  obtain ⟨i, e, rfl, rfl, hI⟩ := hk
  by_cases hl : i < N
  · refine (step i h m hl hI).imp fun r h' r' m' q => ?_
    cases r with
    | inl s' =>
      cases r' with
      | inl t' => exact ⟨k - 1, by omega, i + 1, by omega, q⟩
      | inr y => exact q
    | inr x =>
      cases r' with
      | inl t' => exact q
      | inr y => exact q
  · have : i = N := by omega
    subst this
    refine (stop h m hI).imp fun r h' r' m' q => ?_
    cases r with
    | inl s' =>
      cases r' with
      | inl t' => exact q.elim
      | inr y => exact q
    | inr x =>
      cases r' with
      | inl t' => exact q
      | inr y => exact q
/-! ===== rows for simp: numbers that are numbers ===== -/
theorem lit (k : Nat) : (OfNat.ofNat k : Int32) = nI k := Int32.toBitVec_inj.mp (Eq.trans (congrArg Int32.toBitVec (Eq.refl (nI k))) (Eq.refl _))
theorem va_eq {α : Type} {f : Nat → α} {k : Nat} {v : α} : va_up f k v k = v := by simp [va_up]
section
variable {α : Type} {x y : α} {a b : Nat}
theorem le_t (h : a ≤ b) (hb : b < 2 ^ 31) [Decidable (nI a ≤ nI b)] : (if nI a ≤ nI b then x else y) = x := if_pos (nI_le h hb)
theorem le_f (h : b < a) (ha : a < 2 ^ 31) [Decidable (nI a ≤ nI b)] : (if nI a ≤ nI b then x else y) = y := if_neg (nI_ge h ha)
theorem lt_t (h : a < b) (hb : b < 2 ^ 31) [Decidable (nI a < nI b)] : (if nI a < nI b then x else y) = x := if_pos (nI_lt h hb)
theorem lt_f (h : b ≤ a) (ha : a < 2 ^ 31) [Decidable (nI a < nI b)] : (if nI a < nI b then x else y) = y := if_neg (nI_nlt h ha)
theorem eq_t (h : a = b) [Decidable (nI a = nI b)] : (if nI a = nI b then x else y) = x := if_pos (by rw [h])
theorem eq_f (h : a ≠ b) (ha : a < 2 ^ 31) (hb : b < 2 ^ 31) [Decidable (nI a = nI b)] : (if nI a = nI b then x else y) = y := if_neg (fun z => h ((nI_inj ha hb).mp z))
end
section
variable {β : Type} {m : MS}
theorem te_An {k n i : Nat} {f : Int32 → TM β} (h : i < n) (hn : n < 2 ^ 31) : TM.bind (tA k n (nI i)) f m = f (m.2.2.1 k i) m := by
  rw [te_A (gIn_nI h hn), nI_clamp (by omega)]
theorem te_Bn {k n i : Nat} {f : Int64 → TM β} (h : i < n) (hn : n < 2 ^ 31) : TM.bind (tB k n (nI i)) f m = f (m.2.2.2 k i) m := by
  rw [te_B (gIn_nI h hn), nI_clamp (by omega)]
theorem te_sAn {k n i : Nat} {x : Int32} {f : Unit → TM β} (h : i < n) (hn : n < 2 ^ 31) : TM.bind (sA k n (nI i) x) f m = f () (uA m k i x) := by
  rw [te_sA (gIn_nI h hn), nI_clamp (by omega)]
theorem te_sBn {k n i : Nat} {x : Int64} {f : Unit → TM β} (h : i < n) (hn : n < 2 ^ 31) : TM.bind (sB k n (nI i) x) f m = f () (uB m k i x) := by
  rw [te_sB (gIn_nI h hn), nI_clamp (by omega)]
end
/-! what is read behind a write -/
section
variable {m : MS} {k i : Nat} {x : Int32} {z : Int64}
theorem uI_1 : (uI m k x).1 = va_up m.1 k x := Eq.trans rfl rfl
theorem uI_2 : (uI m k x).2 = m.2 := Eq.trans rfl rfl
theorem uA_1 : (uA m k i x).1 = m.1 := Eq.trans rfl rfl
theorem uA_21 : (uA m k i x).2.1 = m.2.1 := Eq.trans rfl rfl
theorem uA_22 : (uA m k i x).2.2.1 = va_up m.2.2.1 k (va_up (m.2.2.1 k) i x) := Eq.trans rfl rfl
theorem uA_3 : (uA m k i x).2.2.2 = m.2.2.2 := Eq.trans rfl rfl
theorem uB_1 : (uB m k i z).1 = m.1 := Eq.trans rfl rfl
theorem uB_21 : (uB m k i z).2.1 = m.2.1 := Eq.trans rfl rfl
theorem uB_22 : (uB m k i z).2.2.1 = m.2.2.1 := Eq.trans rfl rfl
theorem uB_3 : (uB m k i z).2.2.2 = va_up m.2.2.2 k (va_up (m.2.2.2 k) i z) := Eq.trans rfl rfl
theorem uL_1 : (uL m k z).1 = m.1 := Eq.trans rfl rfl
theorem uL_21 : (uL m k z).2.1 = va_up m.2.1 k z := Eq.trans rfl rfl
theorem uL_22 : (uL m k z).2.2 = m.2.2 := Eq.trans rfl rfl
end
section
variable {xs : XS} {j k i : Nat} {x : Int32} {o : Option Nat} {f : Nat → Int32} {z : Int64}
theorem zI_1 : (zI xs k x).1 = va_up xs.1 k x := Eq.trans rfl rfl
theorem zI_2 : (zI xs k x).2 = xs.2 := Eq.trans rfl rfl
theorem zR_1 : (zR xs k o).1 = xs.1 := Eq.trans rfl rfl
theorem zR_21 : (zR xs k o).2.1 = va_up xs.2.1 k o := Eq.trans rfl rfl
theorem zR_22 : (zR xs k o).2.2 = xs.2.2 := Eq.trans rfl rfl
theorem zA_1 : (zA xs k i x).1 = xs.1 := Eq.trans rfl rfl
theorem zA_21 : (zA xs k i x).2.1 = xs.2.1 := Eq.trans rfl rfl
theorem zA_221 : (zA xs k i x).2.2.1 = va_up xs.2.2.1 k (va_up (xs.2.2.1 k) i x) := Eq.trans rfl rfl
theorem zA_222 : (zA xs k i x).2.2.2 = xs.2.2.2 := Eq.trans rfl rfl
theorem zAA_1 : (zAA xs k f).1 = xs.1 := Eq.trans rfl rfl
theorem zAA_21 : (zAA xs k f).2.1 = xs.2.1 := Eq.trans rfl rfl
theorem zAA_221 : (zAA xs k f).2.2.1 = va_up xs.2.2.1 k f := Eq.trans rfl rfl
theorem zAA_222 : (zAA xs k f).2.2.2 = xs.2.2.2 := Eq.trans rfl rfl
theorem zW_1 : (zW xs j k x).1 = xs.1 := Eq.trans rfl rfl
theorem zW_21 : (zW xs j k x).2.1 = xs.2.1 := Eq.trans rfl rfl
theorem zW_221 : (zW xs j k x).2.2.1 = xs.2.2.1 := Eq.trans rfl rfl
theorem zW_2221 : (zW xs j k x).2.2.2.1 = va_up xs.2.2.2.1 j (va_up (xs.2.2.2.1 j) k x) := Eq.trans rfl rfl
theorem zW_2222 : (zW xs j k x).2.2.2.2 = xs.2.2.2.2 := Eq.trans rfl rfl
theorem zL_1 : (zL xs j z).1 = xs.1 := Eq.trans rfl rfl
theorem zL_21 : (zL xs j z).2.1 = xs.2.1 := Eq.trans rfl rfl
theorem zL_221 : (zL xs j z).2.2.1 = xs.2.2.1 := Eq.trans rfl rfl
theorem zL_2221 : (zL xs j z).2.2.2.1 = xs.2.2.2.1 := Eq.trans rfl rfl
theorem zL_22221 : (zL xs j z).2.2.2.2.1 = va_up xs.2.2.2.2.1 j z := Eq.trans rfl rfl
theorem zL_22222 : (zL xs j z).2.2.2.2.2 = xs.2.2.2.2.2 := Eq.trans rfl rfl
end
section
variable {ax : Nat} {g : gH} {xs : XS} {β : Type} {i : Nat} {v : Int32}
theorem x_A1n {f : Int32 → Mo β} (h : i < 940) : (Mo.bind (aldI 2 (ax + 1) (nI i)) f).1 (mkX ax g xs) = (f (xs.2.2.1 0 i)).1 (mkX ax g xs) := by rw [x_A1 (gIn_nI h (by decide)), nI_clamp (by omega)]
theorem x_sA1n {f : Unit → Mo β} (h : i < 940) : (Mo.bind (astI 2 (ax + 1) (nI i) v) f).1 (mkX ax g xs) = (f ()).1 (mkX ax g (zA xs 0 i v)) := by rw [x_sA1 (gIn_nI h (by decide)), nI_clamp (by omega)]
theorem x_A13n {f : Int32 → Mo β} (h : i < 10) : (Mo.bind (aldI 0 (ax + 13) (nI i)) f).1 (mkX ax g xs) = (f (xs.2.2.1 200 i)).1 (mkX ax g xs) := by rw [x_A13 (gIn_nI h (by decide)), nI_clamp (by omega)]
theorem x_sA13n {f : Unit → Mo β} (h : i < 10) : (Mo.bind (astI 0 (ax + 13) (nI i) v) f).1 (mkX ax g xs) = (f ()).1 (mkX ax g (zA xs 200 i v)) := by rw [x_sA13 (gIn_nI h (by decide)), nI_clamp (by omega)]
theorem x_A14n {f : Int32 → Mo β} (h : i < 10) : (Mo.bind (aldI 0 (ax + 14) (nI i)) f).1 (mkX ax g xs) = (f (xs.2.2.1 201 i)).1 (mkX ax g xs) := by rw [x_A14 (gIn_nI h (by decide)), nI_clamp (by omega)]
theorem x_sA14n {f : Unit → Mo β} (h : i < 10) : (Mo.bind (astI 0 (ax + 14) (nI i) v) f).1 (mkX ax g xs) = (f ()).1 (mkX ax g (zA xs 201 i v)) := by rw [x_sA14 (gIn_nI h (by decide)), nI_clamp (by omega)]
theorem x_A21n {f : Int32 → Mo β} (h : i < 10) : (Mo.bind (aldI 0 (ax + 21) (nI i)) f).1 (mkX ax g xs) = (f (xs.2.2.1 210 i)).1 (mkX ax g xs) := by rw [x_A21 (gIn_nI h (by decide)), nI_clamp (by omega)]
theorem x_sA21n {f : Unit → Mo β} (h : i < 10) : (Mo.bind (astI 0 (ax + 21) (nI i) v) f).1 (mkX ax g xs) = (f ()).1 (mkX ax g (zA xs 210 i v)) := by rw [x_sA21 (gIn_nI h (by decide)), nI_clamp (by omega)]
theorem x_A22n {f : Int32 → Mo β} (h : i < 10) : (Mo.bind (aldI 0 (ax + 22) (nI i)) f).1 (mkX ax g xs) = (f (xs.2.2.1 211 i)).1 (mkX ax g xs) := by rw [x_A22 (gIn_nI h (by decide)), nI_clamp (by omega)]
theorem x_sA22n {f : Unit → Mo β} (h : i < 10) : (Mo.bind (astI 0 (ax + 22) (nI i) v) f).1 (mkX ax g xs) = (f ()).1 (mkX ax g (zA xs 211 i v)) := by rw [x_sA22 (gIn_nI h (by decide)), nI_clamp (by omega)]
theorem x_A27n {f : Int32 → Mo β} (h : i < 10) : (Mo.bind (aldI 0 (ax + 27) (nI i)) f).1 (mkX ax g xs) = (f (xs.2.2.1 15 i)).1 (mkX ax g xs) := by rw [x_A27 (gIn_nI h (by decide)), nI_clamp (by omega)]
theorem x_sA27n {f : Unit → Mo β} (h : i < 10) : (Mo.bind (astI 0 (ax + 27) (nI i) v) f).1 (mkX ax g xs) = (f ()).1 (mkX ax g (zA xs 15 i v)) := by rw [x_sA27 (gIn_nI h (by decide)), nI_clamp (by omega)]
theorem x_A28n {f : Int32 → Mo β} (h : i < 10) : (Mo.bind (aldI 0 (ax + 28) (nI i)) f).1 (mkX ax g xs) = (f (xs.2.2.1 16 i)).1 (mkX ax g xs) := by rw [x_A28 (gIn_nI h (by decide)), nI_clamp (by omega)]
theorem x_sA28n {f : Unit → Mo β} (h : i < 10) : (Mo.bind (astI 0 (ax + 28) (nI i) v) f).1 (mkX ax g xs) = (f ()).1 (mkX ax g (zA xs 16 i v)) := by rw [x_sA28 (gIn_nI h (by decide)), nI_clamp (by omega)]
theorem x_A29n {f : Int32 → Mo β} (h : i < 10) : (Mo.bind (aldI 0 (ax + 29) (nI i)) f).1 (mkX ax g xs) = (f (xs.2.2.1 17 i)).1 (mkX ax g xs) := by rw [x_A29 (gIn_nI h (by decide)), nI_clamp (by omega)]
theorem x_sA29n {f : Unit → Mo β} (h : i < 10) : (Mo.bind (astI 0 (ax + 29) (nI i) v) f).1 (mkX ax g xs) = (f ()).1 (mkX ax g (zA xs 17 i v)) := by rw [x_sA29 (gIn_nI h (by decide)), nI_clamp (by omega)]
theorem x_A30n {f : Int32 → Mo β} (h : i < 10) : (Mo.bind (aldI 0 (ax + 30) (nI i)) f).1 (mkX ax g xs) = (f (xs.2.2.1 21 i)).1 (mkX ax g xs) := by rw [x_A30 (gIn_nI h (by decide)), nI_clamp (by omega)]
theorem x_sA30n {f : Unit → Mo β} (h : i < 10) : (Mo.bind (astI 0 (ax + 30) (nI i) v) f).1 (mkX ax g xs) = (f ()).1 (mkX ax g (zA xs 21 i v)) := by rw [x_sA30 (gIn_nI h (by decide)), nI_clamp (by omega)]
theorem x_A31n {f : Int32 → Mo β} (h : i < 10) : (Mo.bind (aldI 0 (ax + 31) (nI i)) f).1 (mkX ax g xs) = (f (xs.2.2.1 22 i)).1 (mkX ax g xs) := by rw [x_A31 (gIn_nI h (by decide)), nI_clamp (by omega)]
theorem x_sA31n {f : Unit → Mo β} (h : i < 10) : (Mo.bind (astI 0 (ax + 31) (nI i) v) f).1 (mkX ax g xs) = (f ()).1 (mkX ax g (zA xs 22 i v)) := by rw [x_sA31 (gIn_nI h (by decide)), nI_clamp (by omega)]
theorem x_A32n {f : Int32 → Mo β} (h : i < 10) : (Mo.bind (aldI 0 (ax + 32) (nI i)) f).1 (mkX ax g xs) = (f (xs.2.2.1 23 i)).1 (mkX ax g xs) := by rw [x_A32 (gIn_nI h (by decide)), nI_clamp (by omega)]
theorem x_sA32n {f : Unit → Mo β} (h : i < 10) : (Mo.bind (astI 0 (ax + 32) (nI i) v) f).1 (mkX ax g xs) = (f ()).1 (mkX ax g (zA xs 23 i v)) := by rw [x_sA32 (gIn_nI h (by decide)), nI_clamp (by omega)]
theorem x_A33n {f : Int32 → Mo β} (h : i < 10) : (Mo.bind (aldI 0 (ax + 33) (nI i)) f).1 (mkX ax g xs) = (f (xs.2.2.1 26 i)).1 (mkX ax g xs) := by rw [x_A33 (gIn_nI h (by decide)), nI_clamp (by omega)]
theorem x_sA33n {f : Unit → Mo β} (h : i < 10) : (Mo.bind (astI 0 (ax + 33) (nI i) v) f).1 (mkX ax g xs) = (f ()).1 (mkX ax g (zA xs 26 i v)) := by rw [x_sA33 (gIn_nI h (by decide)), nI_clamp (by omega)]
theorem x_A34n {f : Int32 → Mo β} (h : i < 10) : (Mo.bind (aldI 0 (ax + 34) (nI i)) f).1 (mkX ax g xs) = (f (xs.2.2.1 27 i)).1 (mkX ax g xs) := by rw [x_A34 (gIn_nI h (by decide)), nI_clamp (by omega)]
theorem x_sA34n {f : Unit → Mo β} (h : i < 10) : (Mo.bind (astI 0 (ax + 34) (nI i) v) f).1 (mkX ax g xs) = (f ()).1 (mkX ax g (zA xs 27 i v)) := by rw [x_sA34 (gIn_nI h (by decide)), nI_clamp (by omega)]
theorem x_A35n {f : Int32 → Mo β} (h : i < 10) : (Mo.bind (aldI 0 (ax + 35) (nI i)) f).1 (mkX ax g xs) = (f (xs.2.2.1 28 i)).1 (mkX ax g xs) := by rw [x_A35 (gIn_nI h (by decide)), nI_clamp (by omega)]
theorem x_sA35n {f : Unit → Mo β} (h : i < 10) : (Mo.bind (astI 0 (ax + 35) (nI i) v) f).1 (mkX ax g xs) = (f ()).1 (mkX ax g (zA xs 28 i v)) := by rw [x_sA35 (gIn_nI h (by decide)), nI_clamp (by omega)]
theorem x_A36n {f : Int32 → Mo β} (h : i < 1024) : (Mo.bind (aldI 0 (ax + 36) (nI i)) f).1 (mkX ax g xs) = (f (xs.2.2.1 29 i)).1 (mkX ax g xs) := by rw [x_A36 (gIn_nI h (by decide)), nI_clamp (by omega)]
theorem x_sA36n {f : Unit → Mo β} (h : i < 1024) : (Mo.bind (astI 0 (ax + 36) (nI i) v) f).1 (mkX ax g xs) = (f ()).1 (mkX ax g (zA xs 29 i v)) := by rw [x_sA36 (gIn_nI h (by decide)), nI_clamp (by omega)]
theorem x_A37n {f : Int32 → Mo β} (h : i < 1024) : (Mo.bind (aldI 0 (ax + 37) (nI i)) f).1 (mkX ax g xs) = (f (xs.2.2.1 30 i)).1 (mkX ax g xs) := by rw [x_A37 (gIn_nI h (by decide)), nI_clamp (by omega)]
theorem x_sA37n {f : Unit → Mo β} (h : i < 1024) : (Mo.bind (astI 0 (ax + 37) (nI i) v) f).1 (mkX ax g xs) = (f ()).1 (mkX ax g (zA xs 30 i v)) := by rw [x_sA37 (gIn_nI h (by decide)), nI_clamp (by omega)]
theorem x_A38n {f : Int32 → Mo β} (h : i < 5) : (Mo.bind (aldI 0 (ax + 38) (nI i)) f).1 (mkX ax g xs) = (f (xs.2.2.1 32 i)).1 (mkX ax g xs) := by rw [x_A38 (gIn_nI h (by decide)), nI_clamp (by omega)]
theorem x_sA38n {f : Unit → Mo β} (h : i < 5) : (Mo.bind (astI 0 (ax + 38) (nI i) v) f).1 (mkX ax g xs) = (f ()).1 (mkX ax g (zA xs 32 i v)) := by rw [x_sA38 (gIn_nI h (by decide)), nI_clamp (by omega)]
theorem x_A39n {f : Int32 → Mo β} (h : i < 24300) : (Mo.bind (aldI 0 (ax + 39) (nI i)) f).1 (mkX ax g xs) = (f (xs.2.2.1 34 i)).1 (mkX ax g xs) := by rw [x_A39 (gIn_nI h (by decide)), nI_clamp (by omega)]
theorem x_sA39n {f : Unit → Mo β} (h : i < 24300) : (Mo.bind (astI 0 (ax + 39) (nI i) v) f).1 (mkX ax g xs) = (f ()).1 (mkX ax g (zA xs 34 i v)) := by rw [x_sA39 (gIn_nI h (by decide)), nI_clamp (by omega)]
theorem x_A40n {f : Int32 → Mo β} (h : i < 24300) : (Mo.bind (aldI 0 (ax + 40) (nI i)) f).1 (mkX ax g xs) = (f (xs.2.2.1 35 i)).1 (mkX ax g xs) := by rw [x_A40 (gIn_nI h (by decide)), nI_clamp (by omega)]
theorem x_sA40n {f : Unit → Mo β} (h : i < 24300) : (Mo.bind (astI 0 (ax + 40) (nI i) v) f).1 (mkX ax g xs) = (f ()).1 (mkX ax g (zA xs 35 i v)) := by rw [x_sA40 (gIn_nI h (by decide)), nI_clamp (by omega)]
theorem x_A41n {f : Int32 → Mo β} (h : i < 24300) : (Mo.bind (aldI 0 (ax + 41) (nI i)) f).1 (mkX ax g xs) = (f (xs.2.2.1 36 i)).1 (mkX ax g xs) := by rw [x_A41 (gIn_nI h (by decide)), nI_clamp (by omega)]
theorem x_sA41n {f : Unit → Mo β} (h : i < 24300) : (Mo.bind (astI 0 (ax + 41) (nI i) v) f).1 (mkX ax g xs) = (f ()).1 (mkX ax g (zA xs 36 i v)) := by rw [x_sA41 (gIn_nI h (by decide)), nI_clamp (by omega)]
theorem x_A42n {f : Int32 → Mo β} (h : i < 24300) : (Mo.bind (aldI 0 (ax + 42) (nI i)) f).1 (mkX ax g xs) = (f (xs.2.2.1 37 i)).1 (mkX ax g xs) := by rw [x_A42 (gIn_nI h (by decide)), nI_clamp (by omega)]
theorem x_sA42n {f : Unit → Mo β} (h : i < 24300) : (Mo.bind (astI 0 (ax + 42) (nI i) v) f).1 (mkX ax g xs) = (f ()).1 (mkX ax g (zA xs 37 i v)) := by rw [x_sA42 (gIn_nI h (by decide)), nI_clamp (by omega)]
theorem x_A43n {f : Int32 → Mo β} (h : i < 100) : (Mo.bind (aldI 3 (ax + 43) (nI i)) f).1 (mkX ax g xs) = (f (xs.2.2.1 40 i)).1 (mkX ax g xs) := by rw [x_A43 (gIn_nI h (by decide)), nI_clamp (by omega)]
theorem x_sA43n {f : Unit → Mo β} (h : i < 100) : (Mo.bind (astI 3 (ax + 43) (nI i) v) f).1 (mkX ax g xs) = (f ()).1 (mkX ax g (zA xs 40 i v)) := by rw [x_sA43 (gIn_nI h (by decide)), nI_clamp (by omega)]
end
theorem nI_subn {a b : Nat} (h : b ≤ a) : nI a - nI b = nI (a - b) := by
  have e : nI a = nI (a - b) + nI b := by rw [nI_add]; congr 1; omega
  rw [e, Int32.add_sub_cancel]
section
variable {α : Type} {x y : α} {a : Nat}
theorem eqm_f (h : a < 2 ^ 31) [Decidable (nI a = -nI 1)] : (if nI a = -nI 1 then x else y) = y := if_neg (nI_ne_neg h)
theorem ltz_f (h : a < 2 ^ 31) [Decidable (nI a < nI 0)] : (if nI a < nI 0 then x else y) = y := if_neg (nI_pos h)
end
section
variable {β : Type} {m : MS}
theorem t_doors {f : Int32 → TM β} : TM.bind M_X10_doors f m = f (m.2.2.1 14 2) m := t_of (by unfold M_X10_doors; rw [te_A (by decide)]; rfl)
theorem t_hasn {s : Int32} {k : Nat} {f : Bool → TM β} : TM.bind (M_X10_has s (nI k)) f m = f (hasB s k) m := t_of (hasT_run s k m)
theorem t_isIn {a b c : Int32} {f : Bool → TM β} : TM.bind (M_X10_isIn a b c) f m = f (isInB a b c) m := t_of (isIn_runT a b c m)
theorem t_of0 {d : Nat} (h : d < 10) {f : Int32 → TM β} : TM.bind (M_X10_of (nI d) (nI 0)) f m = f (m.2.2.1 14 (110 + 10 * d)) m := t_of (of_run rfl h (k := 0) (kv := nI 0) (by decide) rfl (i := 110 + 10 * d) (by omega))
theorem t_of1 {d : Nat} (h : d < 10) {f : Int32 → TM β} : TM.bind (M_X10_of (nI d) (nI 1)) f m = f (m.2.2.1 14 (111 + 10 * d)) m := t_of (of_run rfl h (k := 1) (kv := nI 1) (by decide) rfl (i := 111 + 10 * d) (by omega))
theorem t_of2 {d : Nat} (h : d < 10) {f : Int32 → TM β} : TM.bind (M_X10_of (nI d) (nI 2)) f m = f (m.2.2.1 14 (112 + 10 * d)) m := t_of (of_run rfl h (k := 2) (kv := nI 2) (by decide) rfl (i := 112 + 10 * d) (by omega))
theorem t_of3 {d : Nat} (h : d < 10) {f : Int32 → TM β} : TM.bind (M_X10_of (nI d) (nI 3)) f m = f (m.2.2.1 14 (113 + 10 * d)) m := t_of (of_run rfl h (k := 3) (kv := nI 3) (by decide) rfl (i := 113 + 10 * d) (by omega))
theorem t_of4 {d : Nat} (h : d < 10) {f : Int32 → TM β} : TM.bind (M_X10_of (nI d) (nI 4)) f m = f (m.2.2.1 14 (114 + 10 * d)) m := t_of (of_run rfl h (k := 4) (kv := nI 4) (by decide) rfl (i := 114 + 10 * d) (by omega))
theorem t_of5 {d : Nat} (h : d < 10) {f : Int32 → TM β} : TM.bind (M_X10_of (nI d) (nI 5)) f m = f (m.2.2.1 14 (115 + 10 * d)) m := t_of (of_run rfl h (k := 5) (kv := nI 5) (by decide) rfl (i := 115 + 10 * d) (by omega))
theorem t_of6 {d : Nat} (h : d < 10) {f : Int32 → TM β} : TM.bind (M_X10_of (nI d) (nI 6)) f m = f (m.2.2.1 14 (116 + 10 * d)) m := t_of (of_run rfl h (k := 6) (kv := nI 6) (by decide) rfl (i := 116 + 10 * d) (by omega))
theorem t_of7 {d : Nat} (h : d < 10) {f : Int32 → TM β} : TM.bind (M_X10_of (nI d) (nI 7)) f m = f (m.2.2.1 14 (117 + 10 * d)) m := t_of (of_run rfl h (k := 7) (kv := nI 7) (by decide) rfl (i := 117 + 10 * d) (by omega))
end
section
variable {β : Type} {h : gH}
theorem m_hasn {s : Int32} {k : Nat} {f : Bool → Mo β} : (Mo.bind (M_X1_has s (nI k)) f).1 h = (f (hasB s k)).1 h := ev_call (has_run s k h)
theorem m_isIn {a b c : Int32} {f : Bool → Mo β} : (Mo.bind (M_X1_isIn a b c) f).1 h = (f (isInB a b c)).1 h := ev_call (isIn_run a b c h)
theorem m_one {k : Nat} {f : Int32 → Mo β} : (Mo.bind (M_X1_one (nI k)) f).1 h = (f (oneB k)).1 h := ev_call (one_run k h)
end
theorem TM.bind_assoc {α β γ : Type} (x : TM α) (f : α → TM β) (g : β → TM γ) : TM.bind (TM.bind x f) g = TM.bind x (fun a => TM.bind (f a) g) := by
  funext m
  unfold TM.bind
  cases x m with
  | none => rfl
  | some q => rfl
theorem TM.pure_bind {α β : Type} (a : α) (f : α → TM β) : TM.bind (TM.pure a) f = f a := Eq.trans rfl rfl
theorem TM.bind_pure {α : Type} (x : TM α) : TM.bind x (fun a => TM.pure a) = x := by
  funext m
  unfold TM.bind TM.pure
  cases x m with
  | none => rfl
  | some q => rfl
theorem Mo.bind_pure {α : Type} (x : Mo α) : Mo.bind x (fun a => Mo.pure a) = x := by
  apply Subtype.ext
  funext h
  rw [Mo.bind_run]
  cases x.1 h with
  | none => rfl
  | some q => rfl
theorem Ok.forTs {S E : Type} {b : S → TM (S ⊕ E)} (c : Nat → S) (N : Nat) (I : Nat → MS → Prop) {Q : E → MS → Prop} {i : Nat} {s : S} (hs : s = c i) (hi : i ≤ N) {m : MS} (h : I i m) (step : ∀ i m, i < N → I i m → Ok (b (c i) m) (lpQ (fun s' m' => s' = c (i + 1) ∧ I (i + 1) m') Q)) (stop : ∀ m, I N m → Ok (b (c N) m) (lpQ (fun _ _ => False) Q)) : Ok (TM.loop b s m) Q := by
  subst hs
  exact Ok.forT c N I step stop hi h
theorem Ok.forMs {S E : Type} {b : S → Mo (S ⊕ E)} (c : Nat → S) (N : Nat) (I : Nat → gH → Prop) {Q : E → gH → Prop} {i : Nat} {s : S} (hs : s = c i) (hi : i ≤ N) {m : gH} (h : I i m) (step : ∀ i m, i < N → I i m → Ok ((b (c i)).1 m) (lpQ (fun s' m' => s' = c (i + 1) ∧ I (i + 1) m') Q)) (stop : ∀ m, I N m → Ok ((b (c N)).1 m) (lpQ (fun _ _ => False) Q)) : Ok ((Mo.loop b s).1 m) Q := by
  subst hs
  exact Ok.forM c N I step stop hi h
theorem Two.fors {S E T F : Type} {b : S → Mo (S ⊕ E)} {c : T → TM (T ⊕ F)} (s : Nat → S) (t : Nat → T) (N : Nat) (I : Nat → gH → MS → Prop) {Q : E → gH → F → MS → Prop} {i : Nat} {s0 : S} {t0 : T} (hs : s0 = s i) (ht : t0 = t i) (hi : i ≤ N) {h : gH} {m : MS} (h0 : I i h m) (step : ∀ i h m, i < N → I i h m → Two ((b (s i)).1 h) (c (t i) m) (lpB (fun s' h' t' m' => s' = s (i + 1) ∧ t' = t (i + 1) ∧ I (i + 1) h' m') Q)) (stop : ∀ h m, I N h m → Two ((b (s N)).1 h) (c (t N) m) (lpB (fun _ _ _ _ => False) Q)) : Two ((Mo.loop b s0).1 h) (TM.loop c t0 m) Q := by
  subst hs
  subst ht
  exact Two.for s t N I step stop hi h0
section
variable {α β : Type} {m : MS}
theorem tq_I {k : Nat} {f : Int32 → TM β} : TM.bind (tI k) f m = f (m.1 k) m := Eq.trans rfl rfl
theorem tq_L {k : Nat} {f : Int64 → TM β} : TM.bind (tL k) f m = f (m.2.1 k) m := Eq.trans rfl rfl
theorem tq_sI {k : Nat} {x : Int32} {f : Unit → TM β} : TM.bind (sI k x) f m = f () (uI m k x) := Eq.trans rfl rfl
theorem tq_sL {k : Nat} {x : Int64} {f : Unit → TM β} : TM.bind (sL k x) f m = f () (uL m k x) := Eq.trans rfl rfl
theorem tq_lv {a : α} {f : α → TM β} : TM.lv a f m = f a m := Eq.trans rfl rfl
theorem tq_pure {a : α} {f : α → TM β} : TM.bind (TM.pure a) f m = f a m := Eq.trans rfl rfl
theorem evq_lv {f : α → Mo β} {h : gH} {a : α} : (Mo.lv a f).1 h = (f a).1 h := Eq.trans rfl rfl
theorem evq_pure {f : α → Mo β} {h : gH} {a : α} : (Mo.bind (Mo.pure a) f).1 h = (f a).1 h := Eq.trans rfl rfl
end
theorem lvM {α β γ : Type} {a : α} {f : α → Mo β} {g : β → Mo γ} : Mo.bind (Mo.lv a f) g = Mo.bind (f a) g := Eq.trans rfl rfl
theorem lvT {α β γ : Type} {a : α} {f : α → TM β} {g : β → TM γ} : TM.bind (TM.lv a f) g = TM.bind (f a) g := Eq.trans rfl rfl
