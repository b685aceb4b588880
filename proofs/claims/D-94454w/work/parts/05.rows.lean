set_option maxRecDepth 100000
/-! ===== what a method computes: functions over the abstract heap that never shrink it ===== -/
def gLe (h h' : gH) : Prop := h.2.1 ≤ h'.2.1 ∧ h.2.2 ≤ h'.2.2
theorem gLe.rf {h : gH} : gLe h h := ⟨Nat.le_refl _, Nat.le_refl _⟩
theorem gLe.tr {a b c : gH} (h : gLe a b) (k : gLe b c) : gLe a c := ⟨Nat.le_trans h.1 k.1, Nat.le_trans h.2 k.2⟩
abbrev Mo (α : Type) : Type := { f : gH → Option (α × gH) // ∀ h r h', f h = some (r, h') → gLe h h' }
def Mo.pure {α : Type} (a : α) : Mo α := ⟨fun h => some (a, h), fun h r h' e => by cases e; exact gLe.rf⟩
def Mo.bind {α β : Type} (x : Mo α) (f : α → Mo β) : Mo β := ⟨fun h => match x.1 h with
  | some (a, h1) => (f a).1 h1
  | none => none, fun h r h' e => by
    dsimp only at e
    cases hx : x.1 h with
    | none => rw [hx] at e; cases e
    | some q =>
      obtain ⟨a, h1⟩ := q
      rw [hx] at e
      exact (x.2 _ _ _ hx).tr ((f a).2 _ _ _ e)⟩
def Mo.fail {α : Type} : Mo α := ⟨fun _ => none, fun h r h' e => by cases e⟩
def Mo.lv {α β : Type} (a : α) (f : α → Mo β) : Mo β := f a
theorem Mo.bind_run {α β : Type} {x : Mo α} {f : α → Mo β} {h : gH} : (Mo.bind x f).1 h = (match x.1 h with
  | some (a, h1) => (f a).1 h1
  | none => none) := rfl
theorem Mo.bind_of {α β : Type} {x : Mo α} {f : α → Mo β} {h h1 : gH} {a : α} (e : x.1 h = some (a, h1)) : (Mo.bind x f).1 h = (f a).1 h1 := by
  rw [Mo.bind_run, e]
theorem Mo.bind_some {α β : Type} {x : Mo α} {f : α → Mo β} {h h' : gH} {r : β} (e : (Mo.bind x f).1 h = some (r, h')) : ∃ a h1, x.1 h = some (a, h1) ∧ (f a).1 h1 = some (r, h') := by
  rw [Mo.bind_run] at e
  cases hx : x.1 h with
  | none => rw [hx] at e; cases e
  | some q =>
    obtain ⟨a, h1⟩ := q
    rw [hx] at e
    exact ⟨a, h1, rfl, e⟩
theorem Mo.pure_some {α : Type} {a r : α} {h h' : gH} (e : (Mo.pure a).1 h = some (r, h')) : r = a ∧ h' = h := by cases e; exact ⟨rfl, rfl⟩
def gIt {S E : Type} (b : S → Mo (S ⊕ E)) : Nat → S → gH → Option (E × gH)
  | 0, _, _ => none
  | n + 1, s, h => match (b s).1 h with
    | some (.inl s', h1) => gIt b n s' h1
    | some (.inr e, h1) => some (e, h1)
    | none => none
theorem gIt_le {S E : Type} {b : S → Mo (S ⊕ E)} : ∀ (n : Nat) (s : S) (h h' : gH) (r : E), gIt b n s h = some (r, h') → gLe h h'
  | 0, _, _, _, _, e => by cases e
  | n + 1, s, h, h', r, e => by
    unfold gIt at e
    cases hx : (b s).1 h with
    | none => rw [hx] at e; cases e
    | some q =>
      obtain ⟨a, h1⟩ := q
      rw [hx] at e
      have hl := (b s).2 _ _ _ hx
      cases a with
      | inl s' => exact hl.tr (gIt_le n s' h1 h' r e)
      | inr x => cases e; exact hl
theorem gIt_up {S E : Type} {b : S → Mo (S ⊕ E)} : ∀ (n k : Nat) (s : S) (h : gH) (r : E × gH), gIt b n s h = some r → gIt b (n + k) s h = some r
  | 0, _, _, _, _, e => by cases e
  | n + 1, k, s, h, r, e => by
    rw [Nat.add_right_comm]
    unfold gIt at e ⊢
    cases hx : (b s).1 h with
    | none => rw [hx] at e; cases e
    | some q =>
      obtain ⟨a, h1⟩ := q
      rw [hx] at e
      cases a with
      | inl s' => exact gIt_up n k s' h1 r e
      | inr x => exact e
theorem gIt_det {S E : Type} {b : S → Mo (S ⊕ E)} {n k : Nat} {s : S} {h : gH} {r r' : E × gH} (e : gIt b n s h = some r) (e' : gIt b k s h = some r') : r = r' := by
  have h1 := gIt_up n k s h r e
  have h2 := gIt_up k n s h r' e'
  rw [Nat.add_comm] at h2
  exact Option.some.inj (h1.symm.trans h2)
/-- a loop: its answer where it ends, else none -/
noncomputable def Mo.loop {S E : Type} (b : S → Mo (S ⊕ E)) (s : S) : Mo E := ⟨fun h => by
  classical
  exact if e : ∃ (n : Nat) (r : E × gH), gIt b n s h = some r then some (Classical.choose (Classical.choose_spec e)) else none, fun h r h' e => by
    classical
    dsimp only at e
    by_cases x : ∃ (n : Nat) (r : E × gH), gIt b n s h = some r
    · rw [dif_pos x] at e
      have hs := Classical.choose_spec (Classical.choose_spec x)
      rw [Option.some.inj e] at hs
      exact gIt_le _ _ _ _ _ hs
    · rw [dif_neg x] at e; cases e⟩
theorem Mo.loop_iff {S E : Type} {b : S → Mo (S ⊕ E)} {s : S} {h : gH} {r : E × gH} : (Mo.loop b s).1 h = some r ↔ ∃ n, gIt b n s h = some r := by
  classical
  have hd : (Mo.loop b s).1 h = (if e : ∃ (n : Nat) (r : E × gH), gIt b n s h = some r then some (Classical.choose (Classical.choose_spec e)) else none) := by
    show (dite _ _ _ : Option (E × gH)) = dite _ _ _
    congr
  rw [hd]
  constructor
  · intro e
    by_cases x : ∃ (n : Nat) (r : E × gH), gIt b n s h = some r
    · rw [dif_pos x] at e
      have hs := Classical.choose_spec (Classical.choose_spec x)
      rw [Option.some.inj e] at hs
      exact ⟨_, hs⟩
    · rw [dif_neg x] at e; cases e
  · rintro ⟨n, e⟩
    have x : ∃ (n : Nat) (r : E × gH), gIt b n s h = some r := ⟨n, r, e⟩
    rw [dif_pos x]
    exact congrArg some (gIt_det (Classical.choose_spec (Classical.choose_spec x)) e)
theorem Mo.loop_eq {S E : Type} (b : S → Mo (S ⊕ E)) (s : S) (h : gH) : (Mo.loop b s).1 h = (match (b s).1 h with
    | some (.inl s', h1) => (Mo.loop b s').1 h1
    | some (.inr e, h1) => some (e, h1)
    | none => none) := by
  cases hx : (b s).1 h with
  | none =>
    cases hl : (Mo.loop b s).1 h with
    | none => rfl
    | some r =>
      obtain ⟨n, e⟩ := Mo.loop_iff.mp hl
      cases n with
      | zero => cases e
      | succ n => unfold gIt at e; rw [hx] at e; cases e
  | some q =>
    obtain ⟨a, h1⟩ := q
    cases a with
    | inl s' =>
      show _ = (Mo.loop b s').1 h1
      cases hl : (Mo.loop b s').1 h1 with
      | some r =>
        obtain ⟨n, e⟩ := Mo.loop_iff.mp hl
        exact Mo.loop_iff.mpr ⟨n + 1, by unfold gIt; rw [hx]; exact e⟩
      | none =>
        cases hl2 : (Mo.loop b s).1 h with
        | none => rfl
        | some r =>
          obtain ⟨n, e⟩ := Mo.loop_iff.mp hl2
          cases n with
          | zero => cases e
          | succ n =>
            unfold gIt at e
            rw [hx] at e
            have := Mo.loop_iff.mpr ⟨n, e⟩
            rw [hl] at this; cases this
    | inr x => exact Mo.loop_iff.mpr ⟨1, by unfold gIt; rw [hx]⟩
/-! ===== reading and writing ===== -/
def Mo.rd {α : Type} (f : gH → Option α) : Mo α := ⟨fun h => (f h).map (fun a => (a, h)), fun h r h' e => by
  dsimp only at e
  cases hf : f h with
  | none => rw [hf] at e; cases e
  | some a => rw [hf] at e; cases e; exact gLe.rf⟩
theorem Mo.rd_some {α : Type} {f : gH → Option α} {h h' : gH} {r : α} (e : (Mo.rd f).1 h = some (r, h')) : f h = some r ∧ h' = h := by
  have e : (f h).map (fun a => (a, h)) = some (r, h') := e
  cases hf : f h with
  | none => rw [hf] at e; cases e
  | some a => rw [hf] at e; cases e; exact ⟨rfl, rfl⟩
/-- the field k of the object at a, one of the classes cs -/
def gFld (cs : List Nat) (a k : Nat) (h : gH) : Option Value := match h.1 a with
  | .inr o => if o.1 ∈ cs then o.2[k]? else none
  | .inl _ => none
def b2i (b : Bool) : Int32 := if b then 1 else 0
def vI : Value → Option Int32
  | .int x => some x
  | _ => none
def vL : Value → Option Int64
  | .long x => some x
  | _ => none
def vR : Value → Option Nat
  | .ref x => some x
  | _ => none
def vN : Value → Option (Option Nat)
  | .ref x => some (some x)
  | .null => some none
  | _ => none
def vZ : Value → Option Bool
  | .int x => if x = 0 then some false else if x = 1 then some true else none
  | _ => none
def gI (cs : List Nat) (a k : Nat) : Mo Int32 := Mo.rd fun h => (gFld cs a k h).bind vI
def gL (cs : List Nat) (a k : Nat) : Mo Int64 := Mo.rd fun h => (gFld cs a k h).bind vL
def gR (cs : List Nat) (a k : Nat) : Mo Nat := Mo.rd fun h => (gFld cs a k h).bind vR
def gNu (cs : List Nat) (a k : Nat) : Mo (Option Nat) := Mo.rd fun h => (gFld cs a k h).bind vN
def gZ (cs : List Nat) (a k : Nat) : Mo Bool := Mo.rd fun h => (gFld cs a k h).bind vZ
def Mo.wr (f : gH → Option (Nat → gA)) : Mo Unit := ⟨fun h => (f h).map (fun c => ((), (c, h.2))), fun h r h' e => by
  dsimp only at e
  cases hf : f h with
  | none => rw [hf] at e; cases e
  | some a => rw [hf] at e; cases e; exact gLe.rf⟩
theorem Mo.wr_some {f : gH → Option (Nat → gA)} {h h' : gH} {r : Unit} (e : (Mo.wr f).1 h = some (r, h')) : ∃ c, f h = some c ∧ h' = (c, h.2) := by
  have e : (f h).map (fun c => ((), (c, h.2))) = some (r, h') := e
  cases hf : f h with
  | none => rw [hf] at e; cases e
  | some a => rw [hf] at e; cases e; exact ⟨a, rfl, rfl⟩
def pF (cs : List Nat) (a k : Nat) (v : Value) : Mo Unit := Mo.wr fun h => match h.1 a with
  | .inr o => if o.1 ∈ cs ∧ k < o.2.length then some (va_up h.1 a (.inr (o.1, o.2.set k v))) else none
  | .inl _ => none
/-- arrays -/
def gIn (i : Int32) (n : Nat) : Bool := !(decide (i < 0) || decide (n ≤ i.toNatClampNeg))
theorem gIn_in {i : Int32} {n : Nat} (h : gIn i n = true) : vp_in i n := by
  unfold gIn at h
  simp only [Bool.not_eq_true', Bool.or_eq_false_iff, decide_eq_false_iff_not] at h
  exact fun x => x.elim h.1 h.2
def aldI (kd a : Nat) (i : Int32) : Mo Int32 := Mo.rd fun h => match h.1 a with
  | .inl (k, n, .inl f) => if k = kd ∧ gIn i n = true then some (f i.toNatClampNeg) else none
  | _ => none
def aldL (a : Nat) (i : Int32) : Mo Int64 := Mo.rd fun h => match h.1 a with
  | .inl (k, n, .inr (.inl f)) => if k = 1 ∧ gIn i n = true then some (f i.toNatClampNeg) else none
  | _ => none
def aldN (kd a : Nat) (i : Int32) : Mo (Option Nat) := Mo.rd fun h => match h.1 a with
  | .inl (k, n, .inr (.inr f)) => if k = kd ∧ gIn i n = true then some (f i.toNatClampNeg) else none
  | _ => none
def aldR (kd a : Nat) (i : Int32) : Mo Nat := Mo.bind (aldN kd a i) (fun r => match r with
  | some x => Mo.pure x
  | none => Mo.fail)
def alen (kds : List Nat) (a : Nat) : Mo Int32 := Mo.rd fun h => match h.1 a with
  | .inl (k, n, _) => if k ∈ kds then some (nI n) else none
  | _ => none
def astI (kd a : Nat) (i x : Int32) : Mo Unit := Mo.wr fun h => match h.1 a with
  | .inl (k, n, .inl f) => if k = kd ∧ gIn i n = true then some (va_up h.1 a (.inl (k, n, .inl (va_up f i.toNatClampNeg x)))) else none
  | _ => none
def astL (a : Nat) (i : Int32) (x : Int64) : Mo Unit := Mo.wr fun h => match h.1 a with
  | .inl (k, n, .inr (.inl f)) => if k = 1 ∧ gIn i n = true then some (va_up h.1 a (.inl (k, n, .inr (.inl (va_up f i.toNatClampNeg x))))) else none
  | _ => none
/-- a reference (or null) of one of the classes cs is laid into an array of references -/
def gOk (cs : List Nat) (x : Option Nat) (h : gH) : Bool := match x with
  | none => true
  | some y => match h.1 y with
    | .inr o => decide (o.1 ∈ cs)
    | .inl _ => false
def astN (kd a : Nat) (cs : List Nat) (i : Int32) (x : Option Nat) : Mo Unit := Mo.wr fun h => match h.1 a with
  | .inl (k, n, .inr (.inr f)) => if k = kd ∧ gIn i n = true ∧ gOk cs x h = true then some (va_up h.1 a (.inl (k, n, .inr (.inr (va_up f i.toNatClampNeg x))))) else none
  | _ => none
