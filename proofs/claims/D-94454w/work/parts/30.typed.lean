set_option maxRecDepth 100000
/-! ===== the reference's state as one value: ints and longs by field, arrays by field ===== -/
abbrev MS : Type := (Nat → Int32) × (Nat → Int64) × (Nat → Nat → Int32) × (Nat → Nat → Int64)
/-- field by field: 0 an int, 1 a long, 1 + j the array at place j -/
def mFk : List Nat := [0, 2, 0, 0, 0, 0, 0, 0, 0, 0, 0, 0, 1, 0, 3, 4, 5, 6, 7, 8, 9, 10, 0, 0, 11, 12, 0, 13, 14, 15, 16, 17, 0, 0, 18, 19, 20, 0, 0, 21, 22, 23, 0, 24, 25, 0, 0, 0, 26, 0, 27, 28, 29, 30, 31, 0, 0, 0, 32, 33, 0, 0, 0, 0]
/-- array by array: its field, its kind, its length -/
def mTab : List (Nat × Nat × Nat) := [(1, 0, 940), (14, 0, 704), (15, 0, 330), (16, 0, 120), (17, 0, 1408), (18, 1, 10), (19, 1, 10), (20, 1, 20), (21, 3, 2), (24, 0, 4), (25, 0, 4), (27, 1, 40), (28, 1, 40), (29, 0, 10), (30, 0, 10), (31, 0, 10), (34, 0, 10), (35, 0, 10), (36, 0, 10), (39, 0, 1024), (40, 0, 1024), (41, 0, 10), (43, 0, 10), (44, 0, 100), (48, 0, 5), (50, 0, 24300), (51, 0, 24300), (52, 0, 24300), (53, 0, 24300), (54, 0, 24300), (58, 3, 100), (59, 0, 240)]
def mV (am : Nat) (ms : MS) (k c : Nat) : Value := match c with
  | 0 => .int (ms.1 k)
  | 1 => .long (ms.2.1 k)
  | c + 2 => .ref (am + (c + 1))
def mFs (am : Nat) (ms : MS) : List Value := mFk.mapIdx (fun k c => mV am ms k c)
def mArr (ms : MS) (j : Nat) : gA := match mTab[j]? with
  | some q => if q.2.1 = 1 then .inl (1, q.2.2, .inr (.inl (ms.2.2.2 q.1))) else .inl (q.2.1, q.2.2, .inl (ms.2.2.1 q.1))
  | none => gDead
def mkM (am : Nat) (hn : gH) (ms : MS) : gH := (fun a => if a = am then .inr (8, mFs am ms) else if am < a ∧ a ≤ am + 32 then mArr ms (a - am - 1) else hn.1 a, hn.2)
theorem mkM_o (am : Nat) (hn : gH) (ms : MS) : (mkM am hn ms).1 am = .inr (8, mFs am ms) := by simp [mkM]
theorem mkM_a (am : Nat) (hn : gH) (ms : MS) {j : Nat} (h1 : 1 ≤ j) (h2 : j ≤ 32) : (mkM am hn ms).1 (am + j) = mArr ms (j - 1) := by
  have e1 : ¬ am + j = am := by omega
  have e2 : am < am + j ∧ am + j ≤ am + 32 := by omega
  simp only [mkM, if_neg e1, if_pos e2]
  congr 1
  omega
theorem mkM_2 (am : Nat) (hn : gH) (ms : MS) : (mkM am hn ms).2 = hn.2 := rfl
def uI (ms : MS) (k : Nat) (x : Int32) : MS := (va_up ms.1 k x, ms.2)
def uL (ms : MS) (k : Nat) (x : Int64) : MS := (ms.1, va_up ms.2.1 k x, ms.2.2)
def uA (ms : MS) (k i : Nat) (x : Int32) : MS := (ms.1, ms.2.1, va_up ms.2.2.1 k (va_up (ms.2.2.1 k) i x), ms.2.2.2)
def uB (ms : MS) (k i : Nat) (x : Int64) : MS := (ms.1, ms.2.1, ms.2.2.1, va_up ms.2.2.2 k (va_up (ms.2.2.2 k) i x))
theorem mFs_uI {am : Nat} {ms : MS} {k : Nat} {x : Int32} (hk : mFk[k]? = some 0) : (mFs am ms).set k (.int x) = mFs am (uI ms k x) := by
  apply List.ext_getElem?
  intro i
  rw [List.getElem?_set]
  unfold mFs
  rw [List.getElem?_mapIdx, List.getElem?_mapIdx]
  by_cases h : k = i
  · subst h
    rw [if_pos rfl, hk]
    have hl : k < (mFk.mapIdx fun k c => mV am ms k c).length := by
      rw [List.length_mapIdx]; exact (List.getElem?_eq_some_iff.mp hk).1
    rw [if_pos hl]
    simp [mV, uI, va_up]
  · rw [if_neg h]
    cases mFk[i]? with
    | none => rfl
    | some c =>
      have h2 : ¬ i = k := fun e => h e.symm
      rcases c with _ | _ | c <;> simp [mV, uI, va_up, h2]
theorem mFs_uL {am : Nat} {ms : MS} {k : Nat} {x : Int64} (hk : mFk[k]? = some 1) : (mFs am ms).set k (.long x) = mFs am (uL ms k x) := by
  apply List.ext_getElem?
  intro i
  rw [List.getElem?_set]
  unfold mFs
  rw [List.getElem?_mapIdx, List.getElem?_mapIdx]
  by_cases h : k = i
  · subst h
    rw [if_pos rfl, hk]
    have hl : k < (mFk.mapIdx fun k c => mV am ms k c).length := by
      rw [List.length_mapIdx]; exact (List.getElem?_eq_some_iff.mp hk).1
    rw [if_pos hl]
    simp [mV, uL, va_up]
  · rw [if_neg h]
    cases mFk[i]? with
    | none => rfl
    | some c =>
      have h2 : ¬ i = k := fun e => h e.symm
      rcases c with _ | _ | c <;> simp [mV, uL, va_up, h2]
theorem mTab_inj : ∀ i : Nat, i < 32 → ∀ j : Nat, j < 32 → (mTab.getD i (0, 0, 0)).1 = (mTab.getD j (0, 0, 0)).1 → i = j := by decide +kernel
theorem mArr_same {ms : MS} {i : Nat} : (∀ q, mTab[i]? = some q → q.2.1 ≠ 1 → ms.2.2.1 q.1 = ms.2.2.1 q.1) := fun _ _ _ => rfl
theorem mkM_setI {am : Nat} {hn : gH} {ms : MS} {k : Nat} {x : Int32} (hk : mFk[k]? = some 0) : (va_up (mkM am hn ms).1 am (.inr (8, (mFs am ms).set k (.int x))), (mkM am hn ms).2) = mkM am hn (uI ms k x) := by
  rw [mFs_uI hk]
  refine Prod.ext ?_ rfl
  funext a
  by_cases h : a = am
  · subst h; simp [va_up, mkM]
  · simp only [va_up, if_neg h, mkM]; rfl
theorem mkM_setL {am : Nat} {hn : gH} {ms : MS} {k : Nat} {x : Int64} (hk : mFk[k]? = some 1) : (va_up (mkM am hn ms).1 am (.inr (8, (mFs am ms).set k (.long x))), (mkM am hn ms).2) = mkM am hn (uL ms k x) := by
  rw [mFs_uL hk]
  refine Prod.ext ?_ rfl
  funext a
  by_cases h : a = am
  · subst h; simp [va_up, mkM]
  · simp only [va_up, if_neg h, mkM]; rfl
theorem mFs_uA {am : Nat} {ms : MS} {k i : Nat} {x : Int32} : mFs am (uA ms k i x) = mFs am ms := rfl
theorem mFs_uB {am : Nat} {ms : MS} {k i : Nat} {x : Int64} : mFs am (uB ms k i x) = mFs am ms := rfl
theorem mTab_get {j k kd n : Nat} (hj : mTab[j]? = some (k, kd, n)) : j < 32 ∧ (mTab.getD j (0, 0, 0)).1 = k := by
  have h := (List.getElem?_eq_some_iff.mp hj).1
  exact ⟨h, by rw [List.getD_eq_getElem?_getD, hj]; rfl⟩
theorem mkM_setA {am : Nat} {hn : gH} {ms : MS} {j k kd n i : Nat} {x : Int32} (hj : mTab[j]? = some (k, kd, n)) (hkd : kd ≠ 1) : (va_up (mkM am hn ms).1 (am + (j + 1)) (.inl (kd, n, .inl (va_up (ms.2.2.1 k) i x))), (mkM am hn ms).2) = mkM am hn (uA ms k i x) := by
  obtain ⟨hjl, hjk⟩ := mTab_get hj
  refine Prod.ext ?_ rfl
  funext a
  by_cases h : a = am + (j + 1)
  · subst h
    rw [mkM_a _ _ _ (by omega) (by omega)]
    simp only [va_up, if_true, mArr, Nat.add_sub_cancel, hj, if_neg hkd, uA]
  · by_cases h0 : a = am
    · subst h0
      simp only [va_up, if_neg h, mkM, if_true, mFs_uA]
    · simp only [va_up, if_neg h, mkM, if_neg h0]
      by_cases h1 : am < a ∧ a ≤ am + 32
      · simp only [if_pos h1, mArr]
        cases hq : mTab[a - am - 1]? with
        | none => rfl
        | some q =>
          obtain ⟨g1, g2⟩ := mTab_get (k := q.1) (kd := q.2.1) (n := q.2.2) hq
          have hne : q.1 ≠ k := fun e => h (by
            have := mTab_inj (a - am - 1) g1 j hjl (by rw [g2, hjk]; exact e)
            omega)
          simp only [uA, va_up, if_neg hne]
      · simp only [if_neg h1]
theorem mkM_setB {am : Nat} {hn : gH} {ms : MS} {j k n i : Nat} {x : Int64} (hj : mTab[j]? = some (k, 1, n)) : (va_up (mkM am hn ms).1 (am + (j + 1)) (.inl (1, n, .inr (.inl (va_up (ms.2.2.2 k) i x)))), (mkM am hn ms).2) = mkM am hn (uB ms k i x) := by
  obtain ⟨hjl, hjk⟩ := mTab_get hj
  refine Prod.ext ?_ rfl
  funext a
  by_cases h : a = am + (j + 1)
  · subst h
    rw [mkM_a _ _ _ (by omega) (by omega)]
    simp only [va_up, if_true, mArr, Nat.add_sub_cancel, hj, uB]
  · by_cases h0 : a = am
    · subst h0
      simp only [va_up, if_neg h, mkM, if_true, mFs_uB]
    · simp only [va_up, if_neg h, mkM, if_neg h0]
      by_cases h1 : am < a ∧ a ≤ am + 32
      · simp only [if_pos h1, mArr]
        cases hq : mTab[a - am - 1]? with
        | none => rfl
        | some q =>
          obtain ⟨g1, g2⟩ := mTab_get (k := q.1) (kd := q.2.1) (n := q.2.2) hq
          have hne : q.1 ≠ k := fun e => h (by
            have := mTab_inj (a - am - 1) g1 j hjl (by rw [g2, hjk]; exact e)
            omega)
          simp only [uB, va_up, if_neg hne]
      · simp only [if_neg h1]

/-! ===== functions over it ===== -/
abbrev TM (α : Type) : Type := MS → Option (α × MS)
def TM.pure {α : Type} (a : α) : TM α := fun m => some (a, m)
def TM.fail {α : Type} : TM α := fun _ => none
def TM.bind {α β : Type} (x : TM α) (f : α → TM β) : TM β := fun m => match x m with
  | some (a, m1) => f a m1
  | none => none
def TM.lv {α β : Type} (a : α) (f : α → TM β) : TM β := f a
theorem TM.bind_some {α β : Type} {x : TM α} {f : α → TM β} {m m' : MS} {r : β} (e : TM.bind x f m = some (r, m')) : ∃ a m1, x m = some (a, m1) ∧ f a m1 = some (r, m') := by
  unfold TM.bind at e
  cases hx : x m with
  | none => rw [hx] at e; cases e
  | some q =>
    obtain ⟨a, m1⟩ := q
    rw [hx] at e
    exact ⟨a, m1, rfl, e⟩
theorem TM.bind_of {α β : Type} {x : TM α} {f : α → TM β} {m m1 : MS} {a : α} (e : x m = some (a, m1)) : TM.bind x f m = f a m1 := by unfold TM.bind; rw [e]
theorem TM.pure_some {α : Type} {a r : α} {m m' : MS} (e : TM.pure a m = some (r, m')) : r = a ∧ m' = m := by cases e; exact ⟨rfl, rfl⟩
def mIt {S E : Type} (b : S → TM (S ⊕ E)) : Nat → S → MS → Option (E × MS)
  | 0, _, _ => none
  | n + 1, s, m => match b s m with
    | some (.inl s', m1) => mIt b n s' m1
    | some (.inr e, m1) => some (e, m1)
    | none => none
theorem mIt_up {S E : Type} {b : S → TM (S ⊕ E)} : ∀ (n k : Nat) (s : S) (m : MS) (r : E × MS), mIt b n s m = some r → mIt b (n + k) s m = some r
  | 0, _, _, _, _, e => by cases e
  | n + 1, k, s, m, r, e => by
    rw [Nat.add_right_comm]
    unfold mIt at e ⊢
    cases hx : b s m with
    | none => rw [hx] at e; cases e
    | some q =>
      obtain ⟨a, m1⟩ := q
      rw [hx] at e
      cases a with
      | inl s' => exact mIt_up n k s' m1 r e
      | inr x => exact e
theorem mIt_det {S E : Type} {b : S → TM (S ⊕ E)} {n k : Nat} {s : S} {m : MS} {r r' : E × MS} (e : mIt b n s m = some r) (e' : mIt b k s m = some r') : r = r' := by
  have h1 := mIt_up n k s m r e
  have h2 := mIt_up k n s m r' e'
  rw [Nat.add_comm] at h2
  exact Option.some.inj (h1.symm.trans h2)
noncomputable def TM.loop {S E : Type} (b : S → TM (S ⊕ E)) (s : S) : TM E := fun m => by
  classical
  exact if e : ∃ (n : Nat) (r : E × MS), mIt b n s m = some r then some (Classical.choose (Classical.choose_spec e)) else none
theorem TM.loop_iff {S E : Type} {b : S → TM (S ⊕ E)} {s : S} {m : MS} {r : E × MS} : TM.loop b s m = some r ↔ ∃ n, mIt b n s m = some r := by
  classical
  have hd : TM.loop b s m = (if e : ∃ (n : Nat) (r : E × MS), mIt b n s m = some r then some (Classical.choose (Classical.choose_spec e)) else none) := by
    show (dite _ _ _ : Option (E × MS)) = dite _ _ _
    congr
  rw [hd]
  constructor
  · intro e
    by_cases x : ∃ (n : Nat) (r : E × MS), mIt b n s m = some r
    · rw [dif_pos x] at e
      have hs := Classical.choose_spec (Classical.choose_spec x)
      rw [Option.some.inj e] at hs
      exact ⟨_, hs⟩
    · rw [dif_neg x] at e; cases e
  · rintro ⟨n, e⟩
    have x : ∃ (n : Nat) (r : E × MS), mIt b n s m = some r := ⟨n, r, e⟩
    rw [dif_pos x]
    exact congrArg some (mIt_det (Classical.choose_spec (Classical.choose_spec x)) e)
theorem TM.loop_eq {S E : Type} (b : S → TM (S ⊕ E)) (s : S) (m : MS) : TM.loop b s m = (match b s m with
    | some (.inl s', m1) => TM.loop b s' m1
    | some (.inr e, m1) => some (e, m1)
    | none => none) := by
  cases hx : b s m with
  | none =>
    cases hl : TM.loop b s m with
    | none => rfl
    | some r =>
      obtain ⟨n, e⟩ := TM.loop_iff.mp hl
      cases n with
      | zero => cases e
      | succ n => unfold mIt at e; rw [hx] at e; cases e
  | some q =>
    obtain ⟨a, m1⟩ := q
    cases a with
    | inl s' =>
      show _ = TM.loop b s' m1
      cases hl : TM.loop b s' m1 with
      | some r =>
        obtain ⟨n, e⟩ := TM.loop_iff.mp hl
        exact TM.loop_iff.mpr ⟨n + 1, by unfold mIt; rw [hx]; exact e⟩
      | none =>
        cases hl2 : TM.loop b s m with
        | none => rfl
        | some r =>
          obtain ⟨n, e⟩ := TM.loop_iff.mp hl2
          cases n with
          | zero => cases e
          | succ n =>
            unfold mIt at e
            rw [hx] at e
            have := TM.loop_iff.mpr ⟨n, e⟩
            rw [hl] at this; cases this
    | inr x => exact TM.loop_iff.mpr ⟨1, by unfold mIt; rw [hx]⟩
/-- reads and writes, by field -/
def tI (k : Nat) : TM Int32 := fun m => some (m.1 k, m)
def tL (k : Nat) : TM Int64 := fun m => some (m.2.1 k, m)
def tZ (k : Nat) : TM Bool := fun m => if m.1 k = 0 then some (false, m) else if m.1 k = 1 then some (true, m) else none
def tA (k n : Nat) (i : Int32) : TM Int32 := fun m => if gIn i n = true then some (m.2.2.1 k i.toNatClampNeg, m) else none
def tB (k n : Nat) (i : Int32) : TM Int64 := fun m => if gIn i n = true then some (m.2.2.2 k i.toNatClampNeg, m) else none
def sI (k : Nat) (x : Int32) : TM Unit := fun m => some ((), uI m k x)
def sL (k : Nat) (x : Int64) : TM Unit := fun m => some ((), uL m k x)
def sA (k n : Nat) (i x : Int32) : TM Unit := fun m => if gIn i n = true then some ((), uA m k i.toNatClampNeg x) else none
def sB (k n : Nat) (i : Int32) (x : Int64) : TM Unit := fun m => if gIn i n = true then some ((), uB m k i.toNatClampNeg x) else none
