set_option maxRecDepth 100000
def iZ (z : Int) : Int32 := Int32.ofInt z
theorem iZ_add (a b : Int) : iZ a + iZ b = iZ (a + b) := by unfold iZ; rw [Int32.ofInt_add]
theorem iZ_mul (a b : Int) : iZ a * iZ b = iZ (a * b) := by unfold iZ; rw [Int32.ofInt_mul]
theorem iZ_sub (a b : Int) : iZ a - iZ b = iZ (a - b) := by unfold iZ; rw [Int32.ofInt_sub]
theorem iZ_nat (k : Nat) : nI k = iZ (k : Int) := by
  unfold nI iZ
  exact (Int32.ofInt_eq_ofNat).symm
theorem iZ_self (x : Int32) : x = iZ x.toInt := by unfold iZ; rw [Int32.ofInt_toInt]
theorem iZ_toInt {z : Int} (h1 : -2 ^ 31 ≤ z) (h2 : z < 2 ^ 31) : (iZ z).toInt = z := by
  unfold iZ
  exact Int32.toInt_ofInt_of_le h1 h2
def putM (m : MS) (p : Int × Int) : MS := uI (uA (uA m 24 (m.1 26).toNatClampNeg (iZ p.1)) 25 (m.1 26).toNatClampNeg (iZ p.2)) 26 (m.1 26 + 1)
def lfM (m : MS) (L : List (Int × Int)) : MS := L.foldl putM (uI m 26 0)
theorem put_run {m : MS} {k : Nat} (hk : m.1 26 = nI k) (h4 : k < 4) (x y : Int) : M_X10_put (iZ x) (iZ y) m = some ((), putM m (x, y)) := by
  have hg : gIn (m.1 26) 4 = true := by rw [hk]; exact gIn_nI h4 (by decide)
  unfold M_X10_put
  rw [te_I, te_sA hg, te_I]
  have e : ∀ (a : Nat) (i : Nat) (v : Int32), (uA m a i v).1 26 = m.1 26 := fun _ _ _ => rfl
  rw [e, te_sA hg, te_I, te_sI]
  rfl
theorem putM_fold : ∀ (L : List (Int × Int)) (m : MS) (k : Nat), m.1 26 = nI k → k + L.length < 2 ^ 31 → (L.foldl putM m).1 26 = nI (k + L.length) ∧ (∀ j, j ≠ 26 → (L.foldl putM m).1 j = m.1 j) ∧ (L.foldl putM m).2.1 = m.2.1 ∧ (L.foldl putM m).2.2.2 = m.2.2.2 ∧ (∀ j, j ≠ 24 → j ≠ 25 → (L.foldl putM m).2.2.1 j = m.2.2.1 j) ∧ (∀ i, i < k → (L.foldl putM m).2.2.1 24 i = m.2.2.1 24 i ∧ (L.foldl putM m).2.2.1 25 i = m.2.2.1 25 i) ∧ ∀ i (hi : i < L.length), (L.foldl putM m).2.2.1 24 (k + i) = iZ L[i].1 ∧ (L.foldl putM m).2.2.1 25 (k + i) = iZ L[i].2
  | [], m, k, h1, h2 => ⟨h1, fun _ _ => rfl, rfl, rfl, fun _ _ _ => rfl, fun _ _ => ⟨rfl, rfl⟩, fun i hi => absurd hi (Nat.not_lt_zero i)⟩
  | p :: L, m, k, h1, h2 => by
    have hk : (m.1 26).toNatClampNeg = k := by rw [h1]; exact nI_clamp (by simp at h2; omega)
    have h26 : (putM m p).1 26 = nI (k + 1) := by
      show m.1 26 + 1 = _
      rw [h1, nI_succ]
    simp only [List.length_cons] at h2 ⊢
    obtain ⟨a1, a2, a3, a4, a5, a6, a7⟩ := putM_fold L (putM m p) (k + 1) h26 (by omega)
    refine ⟨by rw [show k + (L.length + 1) = k + 1 + L.length by omega]; exact a1, fun j hj => (a2 j hj).trans (by simp [putM, uI, uA, va_up, hj]), a3, a4, fun j h1 h2 => (a5 j h1 h2).trans (by simp [putM, uI, uA, va_up, h1, h2]), fun i hi => ?_, fun i hi => ?_⟩
    · obtain ⟨b1, b2⟩ := a6 i (by omega)
      have hne : i ≠ k := by omega
      exact ⟨b1.trans (by simp [putM, uI, uA, va_up, hk, hne]), b2.trans (by simp [putM, uI, uA, va_up, hk, hne])⟩
    · cases i with
      | zero =>
        obtain ⟨b1, b2⟩ := a6 k (by omega)
        exact ⟨b1.trans (by simp [putM, uI, uA, va_up, hk]), b2.trans (by simp [putM, uI, uA, va_up, hk])⟩
      | succ i =>
        have := a7 i (by simpa using hi)
        rw [show k + (i + 1) = k + 1 + i by omega]
        exact this
theorem of_run {m : MS} {r : Row} (hr : m.2.2.1 14 = r) {d k : Nat} (hd : d < 10) (hk : k < 10) {kv : Int32} (hkv : kv = nI k) {i : Nat} (hi : 110 + 10 * d + k = i) : M_X10_of (nI d) kv m = some (r i, m) := by
  unfold M_X10_of
  have e : 110 + 10 * nI d + kv = nI i := by
    rw [← hi, ← nI_add, ← nI_add, ← nI_mul, hkv]
    rfl
  rw [e, te_A (gIn_nI (by omega) (by decide)), nI_clamp (by omega), hr]
  rfl
theorem lfM_one {m : MS} {L : List (Int × Int)} {p : Int × Int} (hL : L.length < 4) : M_X10_put (iZ p.1) (iZ p.2) (lfM m L) = some ((), lfM m (L ++ [p])) := by
  have h26 : (lfM m L).1 26 = nI L.length := by
    have := (putM_fold L (uI m 26 0) 0 rfl (by omega)).1
    rw [Nat.zero_add] at this
    exact this
  rw [put_run h26 hL]
  unfold lfM
  rw [List.foldl_append]
  rfl
/-- a leaf's cells one by one -/
theorem leaf_loop {m : MS} {b : Int32 → TM (Int32 ⊕ Unit)} {P : Nat → List (Int × Int)} {N : Nat} (hN : N < 2 ^ 31) (c0 : Nat) (L0 : List (Int × Int))
    (step : ∀ i, i < N → b (nI (c0 + i)) (lfM m (L0 ++ (List.range i).flatMap P)) = some (.inl (nI (c0 + i) + 1), lfM m (L0 ++ (List.range i).flatMap P ++ P i))) (stop : b (nI (c0 + N)) (lfM m (L0 ++ (List.range N).flatMap P)) = some (.inr (), lfM m (L0 ++ (List.range N).flatMap P))) : TM.loop b (nI c0) (lfM m L0) = some ((), lfM m (L0 ++ (List.range N).flatMap P)) := by
  have := TM.loop_count (b := b) (fun i => nI (c0 + i)) N (fun i => lfM m (L0 ++ (List.range i).flatMap P)) (x := ()) (hE := lfM m (L0 ++ (List.range N).flatMap P)) (fun i hi => by
    rw [step i hi, List.range_succ, List.flatMap_append, ← nI_succ, ← List.append_assoc]
    simp [Nat.add_assoc]) stop N 0 (by omega)
  simpa using this
theorem h4_par : ∀ h : Nat, h < 4 → ((nI h - nI h / 2 * 2 = 0) ↔ h % 2 = 0) := by decide
theorem h4_two : ∀ h : Nat, h < 4 → ((2 ≤ nI h) ↔ ¬ h < 2) := by decide
theorem leafL_len (r : Row) (d h a : Nat) (hl : rN r (113 + 10 * d) ≤ 3) : (leafL r d h a).length ≤ 4 := by
  unfold leafL leafZ
  generalize rN r (113 + 10 * d) = len at hl
  rcases (show len = 0 ∨ len = 1 ∨ len = 2 ∨ len = 3 by omega) with rfl | rfl | rfl | rfl <;> by_cases h1 : a = 1 <;> simp [h1, List.range_succ, List.range_zero]
theorem fm_flat {α β : Type} (l : List α) (c : α → Bool) (f : α → β) : (l.filterMap fun j => if c j then some (f j) else none) = l.flatMap fun j => if c j then [f j] else [] := by
  induction l with
  | nil => rfl
  | cons x t ih =>
    simp only [List.filterMap_cons, List.flatMap_cons, ih]
    cases c x <;> rfl
theorem map_flat {α β : Type} (l : List α) (f : α → β) : l.map f = l.flatMap fun j => [f j] := by
  induction l with
  | nil => rfl
  | cons x t ih => simp only [List.map_cons, List.flatMap_cons, ih]; rfl
/-- where the cells of a leaf lie: its hinge (hx, hy), along al, out ou -/
def leafP (ac : Bool) (al ou hx hy : Int) (len a : Nat) : List (Int × Int) :=
  if a = 1 then
    (List.range len).flatMap fun (i : Nat) => (List.range (if len ≤ 1 then 1 else len - 1)).flatMap fun (j : Nat) =>
      if (decide (j + 1 = i) || decide (j + 1 = i + 1)) then [if ac then (hx + ou * ((j : Int) + 1), hy + al * (i : Int)) else (hx + al * (i : Int), hy + ou * ((j : Int) + 1))] else []
  else
    (List.range len).flatMap fun (i : Nat) => [if a = 0 then (if ac then (hx, hy + al * (i : Int)) else (hx + al * (i : Int), hy)) else (if ac then (hx + ou * ((i : Int) + 1), hy) else (hx, hy + ou * ((i : Int) + 1)))]
theorem leafZ_P (x y : Int) (ac : Bool) (len h a : Nat) : leafZ x y ac len h a = leafP ac (if h % 2 = 0 then 1 else -1) (if h < 2 then -1 else 1) (if ac then x else x + (if h % 2 = 0 then 0 else (len : Int) - 1)) (if ac then y + (if h % 2 = 0 then 0 else (len : Int) - 1) else y) len a := by
  unfold leafZ leafP
  dsimp only
  by_cases h1 : a = 1
  · simp only [if_pos h1]
    congr 1
    funext i
    rw [← fm_flat]
    congr 1
    funext j
    simp
  · simp only [if_neg h1]
    exact map_flat _ _
theorem leafP_len (ac : Bool) (al ou hx hy : Int) (len a : Nat) (hl : len ≤ 3) : (leafP ac al ou hx hy len a).length ≤ 4 := by
  unfold leafP
  rcases (show len = 0 ∨ len = 1 ∨ len = 2 ∨ len = 3 by omega) with rfl | rfl | rfl | rfl <;> by_cases h1 : a = 1 <;> simp [h1, List.range_succ, List.range_zero]
theorem pre_len {α : Type} (P : Nat → List α) {i N : Nat} (h : i < N) (k : Nat) (hN : ((List.range N).flatMap P).length ≤ k) : ((List.range i).flatMap P ++ P i).length ≤ k := by
  have e : (List.range i).flatMap P ++ P i = (List.range (i + 1)).flatMap P := by rw [List.range_succ, List.flatMap_append]; simp
  rw [e]
  obtain ⟨k', rfl⟩ : ∃ k', N = (i + 1) + k' := ⟨N - (i + 1), by omega⟩
  rw [List.range_add, List.flatMap_append, List.length_append] at hN
  omega
/-- the reference's two loops over a leaf -/
theorem leafA_run {m : MS} {len : Nat} (hl : len ≤ 3) {al ou hx hy : Int} {v2 : Int32} {ac : Bool} (hv : v2 = b2i ac) : TM.loop (S := Int32) (E := Unit) (fun s23 => if nI len ≤ s23 then TM.pure (Sum.inr ()) else TM.bind (TM.loop (S := Int32) (E := Unit) (fun s27 => if nI (if len ≤ 1 then 1 else len - 1) < s27 then TM.pure (Sum.inr ()) else TM.bind ((if s27 = s23 then TM.bind ((if v2 = 0 then TM.pure (iZ al * s23) else TM.pure (iZ ou * s27) : TM (Int32))) (fun u33 => TM.bind ((if v2 = 0 then TM.pure (iZ ou * s27) else TM.pure (iZ al * s23) : TM (Int32))) (fun u34 => TM.bind (M_X10_put (iZ hx + u33) (iZ hy + u34)) (fun v35 => TM.pure ()))) else if s27 = (s23 + 1) then TM.bind ((if v2 = 0 then TM.pure (iZ al * s23) else TM.pure (iZ ou * s27) : TM (Int32))) (fun u36 => TM.bind ((if v2 = 0 then TM.pure (iZ ou * s27) else TM.pure (iZ al * s23) : TM (Int32))) (fun u37 => TM.bind (M_X10_put (iZ hx + u36) (iZ hy + u37)) (fun v38 => TM.pure ()))) else TM.pure () : TM (Unit))) (fun u31 => TM.lv (s27 + 1) (fun v32 => TM.pure (Sum.inl v32)))) 1) (fun e30 => TM.lv (s23 + 1) (fun v39 => TM.pure (Sum.inl v39)))) 0 (lfM m []) = some ((), lfM m (leafP ac al ou hx hy len 1)) := by
  have hL := leafP_len ac al ou hx hy len 1 hl
  unfold leafP at hL ⊢
  rw [if_pos rfl] at hL ⊢
  have hdp : (if len ≤ 1 then 1 else len - 1) ≤ 3 := by split <;> omega
  generalize (if len ≤ 1 then 1 else len - 1) = dp at hdp hL ⊢
  refine leaf_loop (P := fun i => (List.range dp).flatMap fun (j : Nat) => if (decide (j + 1 = i) || decide (j + 1 = i + 1)) then [if ac then (hx + ou * ((j : Int) + 1), hy + al * (i : Int)) else (hx + al * (i : Int), hy + ou * ((j : Int) + 1))] else []) (by omega) 0 [] (fun i hi => ?_) ?_
  · rw [Nat.zero_add, if_neg (nI_ge hi (by omega)), List.nil_append]
    have hLi := pre_len _ hi 4 hL
    generalize (List.range i).flatMap _ = L0 at hLi ⊢
    rw [t_of (a := ()) (m1 := lfM m (L0 ++ (List.range dp).flatMap fun (j : Nat) => if (decide (j + 1 = i) || decide (j + 1 = i + 1)) then [if ac then (hx + ou * ((j : Int) + 1), hy + al * (i : Int)) else (hx + al * (i : Int), hy + ou * ((j : Int) + 1))] else [])) ?_]
    · rfl
    · refine leaf_loop (by omega) 1 L0 (fun j hj => ?_) ?_
      · rw [if_neg (nI_nlt (by omega) (by omega))]
        have hLj := pre_len (fun (j : Nat) => if (decide (j + 1 = i) || decide (j + 1 = i + 1)) then [if ac then (hx + ou * ((j : Int) + 1), hy + al * (i : Int)) else (hx + al * (i : Int), hy + ou * ((j : Int) + 1))] else []) hj (4 - L0.length) (by rw [List.length_append] at hLi; exact Nat.le_sub_of_add_le (by rw [Nat.add_comm]; exact hLi))
        generalize (List.range j).flatMap _ = L1 at hLj ⊢
        have e1 : nI (1 + j) = iZ ((j : Int) + 1) := by rw [iZ_nat]; congr 1; omega
        have e2 : nI i = iZ (i : Int) := iZ_nat i
        have put : (decide (j + 1 = i) || decide (j + 1 = i + 1)) = true → TM.bind ((if v2 = 0 then TM.pure (iZ al * nI i) else TM.pure (iZ ou * nI (1 + j)) : TM (Int32))) (fun u33 => TM.bind ((if v2 = 0 then TM.pure (iZ ou * nI (1 + j)) else TM.pure (iZ al * nI i) : TM (Int32))) (fun u34 => TM.bind (M_X10_put (iZ hx + u33) (iZ hy + u34)) (fun v35 => TM.pure ()))) (lfM m (L0 ++ L1)) = some ((), lfM m (L0 ++ L1 ++ [if ac then (hx + ou * ((j : Int) + 1), hy + al * (i : Int)) else (hx + al * (i : Int), hy + ou * ((j : Int) + 1))])) := by
          intro hc
          rw [if_pos hc] at hLj
          simp only [List.length_append, List.length_cons, List.length_nil] at hLj hLi
          have hlt : (L0 ++ L1).length < 4 := by rw [List.length_append]; omega
          rw [hv, e1, e2]
          cases ac with
          | true =>
            rw [if_neg (show ¬ b2i true = 0 by decide), te_pure, if_neg (show ¬ b2i true = 0 by decide), te_pure]
            rw [iZ_mul, iZ_mul, iZ_add, iZ_add, t_of (lfM_one (p := (hx + ou * ((j : Int) + 1), hy + al * (i : Int))) hlt)]
            rfl
          | false =>
            rw [if_pos (show b2i false = 0 from rfl), te_pure, if_pos (show b2i false = 0 from rfl), te_pure]
            rw [iZ_mul, iZ_mul, iZ_add, iZ_add, t_of (lfM_one (p := (hx + al * (i : Int), hy + ou * ((j : Int) + 1))) hlt)]
            rfl
        by_cases c1 : j + 1 = i
        · have hc : (decide (j + 1 = i) || decide (j + 1 = i + 1)) = true := by simp [c1]
          have q := put hc
          rw [if_pos hc]
          rw [if_pos (show nI (1 + j) = nI i by rw [Nat.add_comm, c1]), t_of q]
          rfl
        · by_cases c2 : j + 1 = i + 1
          · have hc : (decide (j + 1 = i) || decide (j + 1 = i + 1)) = true := by simp [c2]
            have q := put hc
            rw [if_pos hc]
            rw [if_neg (fun z => c1 (by have := (nI_inj (by omega) (by omega)).mp z; omega)), if_pos (show nI (1 + j) = nI i + 1 by rw [← nI_succ]; congr 1; omega), t_of q]
            rfl
          · have hc : (decide (j + 1 = i) || decide (j + 1 = i + 1)) = false := by simp [c1]; omega
            rw [if_neg (show ¬ (nI (1 + j) = nI i) from fun z => c1 (by have := (nI_inj (by omega) (by omega)).mp z; omega)), if_neg (show ¬ (nI (1 + j) = nI i + 1) from fun z => c2 (by rw [← nI_succ] at z; have := (nI_inj (by omega) (by omega)).mp z; omega)), hc]
            show _ = some (_, lfM m (L0 ++ L1 ++ []))
            rw [List.append_nil]
            rfl
      · rw [if_pos (nI_lt (by omega) (by omega))]
        rfl
  · rw [Nat.zero_add, if_pos (nI_le (Nat.le_refl _) (by omega))]
    rfl
theorem leafB_run {m : MS} {len a : Nat} (hl : len ≤ 3) (ha : a < 3) (ha1 : a ≠ 1) {al ou hx hy : Int} {v2 : Int32} {ac : Bool} (hv : v2 = b2i ac) : TM.loop (S := Int32) (E := Unit) (fun s12 => if nI len ≤ s12 then TM.pure (Sum.inr ()) else TM.bind ((if nI a = 0 then TM.pure (iZ al * s12) else TM.pure (iZ ou * (s12 + 1)) : TM (Int32))) (fun u16 => TM.bind ((if nI a = 0 then if v2 = 0 then TM.pure true else TM.pure false else if v2 = 1 then TM.pure true else TM.pure false : TM (Bool))) (fun u17 => TM.bind ((cond u17 (TM.pure u16) (TM.pure 0) : TM (Int32))) (fun u18 => TM.bind ((cond u17 (TM.pure 0) (TM.pure u16) : TM (Int32))) (fun u19 => TM.bind (M_X10_put (iZ hx + u18) (iZ hy + u19)) (fun v20 => TM.lv (s12 + 1) (fun v21 => TM.pure (Sum.inl v21)))))))) 0 (lfM m []) = some ((), lfM m (leafP ac al ou hx hy len a)) := by
  have hL := leafP_len ac al ou hx hy len a hl
  unfold leafP at hL ⊢
  rw [if_neg ha1] at hL ⊢
  refine leaf_loop (P := fun (i : Nat) => [if a = 0 then (if ac then (hx, hy + al * (i : Int)) else (hx + al * (i : Int), hy)) else (if ac then (hx + ou * ((i : Int) + 1), hy) else (hx, hy + ou * ((i : Int) + 1)))]) (by omega) 0 [] (fun i hi => ?_) ?_
  · rw [Nat.zero_add, if_neg (nI_ge hi (by omega)), List.nil_append]
    have hLi := pre_len _ hi 4 hL
    generalize (List.range i).flatMap _ = L0 at hLi ⊢
    simp only [List.length_append, List.length_cons, List.length_nil] at hLi
    have hlt : L0.length < 4 := by omega
    have e2 : nI i = iZ (i : Int) := iZ_nat i
    have e3 : iZ (i : Int) + 1 = iZ ((i : Int) + 1) := by rw [← iZ_add]; rfl
    have e0 : ∀ z : Int, iZ z + 0 = iZ z := fun z => by rw [show (0 : Int32) = iZ 0 from rfl, iZ_add, Int.add_zero]
    have hput : ∀ p : Int × Int, TM.bind (M_X10_put (iZ p.1) (iZ p.2)) (fun v20 => TM.lv (nI i + 1) (fun v21 => TM.pure (Sum.inl v21 : Int32 ⊕ Unit))) (lfM m L0) = some (Sum.inl (nI i + 1), lfM m (L0 ++ [p])) := fun p => by
      rw [t_of (lfM_one (p := p) hlt)]; rfl
    rcases (show a = 0 ∨ a = 2 by omega) with rfl | rfl <;> cases ac
    · subst hv
      show TM.bind (TM.pure (iZ al * nI i)) _ _ = _
      rw [te_pure]
      show TM.bind (M_X10_put (iZ hx + iZ al * nI i) (iZ hy + 0)) _ _ = _
      rw [e2, iZ_mul, iZ_add, e0, ← e2]
      exact hput (hx + al * i, hy)
    · subst hv
      show TM.bind (M_X10_put (iZ hx + 0) (iZ hy + iZ al * nI i)) _ _ = _
      rw [e2, iZ_mul, iZ_add, e0, ← e2]
      exact hput (hx, hy + al * i)
    · subst hv
      show TM.bind (M_X10_put (iZ hx + 0) (iZ hy + iZ ou * (nI i + 1))) _ _ = _
      rw [show iZ ou * (nI i + 1) = iZ (ou * ((i : Int) + 1)) by rw [e2, e3, iZ_mul], iZ_add, e0]
      exact hput (hx, hy + ou * ((i : Int) + 1))
    · subst hv
      show TM.bind (M_X10_put (iZ hx + iZ ou * (nI i + 1)) (iZ hy + 0)) _ _ = _
      rw [show iZ ou * (nI i + 1) = iZ (ou * ((i : Int) + 1)) by rw [e2, e3, iZ_mul], iZ_add, e0]
      exact hput (hx + ou * ((i : Int) + 1), hy)
  · rw [Nat.zero_add, if_pos (nI_le (Nat.le_refl _) (by omega))]
    rfl
set_option maxHeartbeats 4000000 in
theorem layLeaf_run {m : MS} {r : Row} (hr : m.2.2.1 14 = r) (ok : okRow r) {d h a : Nat} (hd : d < rN r 2) (hh : h < 4) (ha : a < 3) : M_X10_layLeaf (nI d) (nI h) (nI a) m = some ((), lfM m (leafL r d h a)) := by
  have hm := ok.2.2.1.2
  obtain ⟨⟨x1, x2⟩, ⟨y1, y2⟩, hac, ⟨l1, l2, l3⟩, -⟩ := ok.2.2.2.2.2.1 d hd
  have hd10 : d < 10 := by omega
  have hv : r (112 + 10 * d) = b2i (r (112 + 10 * d) == 1) := by rcases hac with e | e <;> rw [e] <;> decide
  have hxz : r (110 + 10 * d) = iZ (r (110 + 10 * d)).toInt := iZ_self _
  have hyz : r (111 + 10 * d) = iZ (r (111 + 10 * d)).toInt := iZ_self _
  unfold M_X10_layLeaf leafL
  rw [leafZ_P]
  generalize hAl : (if h % 2 = 0 then (1 : Int) else -1) = al
  generalize hOu : (if h < 2 then (-1 : Int) else 1) = ou
  generalize hFa : (if h % 2 = 0 then (0 : Int) else (rN r (113 + 10 * d) : Int) - 1) = fa
  rw [t_of (of_run hr hd10 (k := 3) (kv := 3) (by decide) rfl (i := 113 + 10 * d) (by omega)), t_of (of_run hr hd10 (k := 2) (kv := 2) (by decide) rfl (i := 112 + 10 * d) (by omega))]
  rw [t_of (a := iZ al) (m1 := m) (by
    rw [← hAl]
    by_cases hp : h % 2 = 0
    · rw [if_pos ((h4_par h hh).mpr hp), if_pos hp]; rfl
    · rw [if_neg (fun z => hp ((h4_par h hh).mp z)), if_neg hp]; rfl)]
  rw [t_of (a := iZ ou) (m1 := m) (by
    rw [← hOu]
    by_cases hp : h < 2
    · rw [if_neg (fun z => (h4_two h hh).mp z hp), if_pos hp]; rfl
    · rw [if_pos ((h4_two h hh).mpr hp), if_neg hp]; rfl)]
  rw [t_of (a := iZ fa) (m1 := m) (by
    rw [← hFa]
    by_cases hp : h % 2 = 0
    · rw [if_pos ((h4_par h hh).mpr hp), if_pos hp]; rfl
    · rw [if_neg (fun z => hp ((h4_par h hh).mp z)), if_neg hp, l1, iZ_nat, show (1 : Int32) = iZ 1 from rfl, iZ_sub]; rfl)]
  rw [t_of (of_run hr hd10 (k := 0) (kv := 0) (by decide) rfl (i := 110 + 10 * d) (by omega))]
  generalize hb : (r (112 + 10 * d) == 1) = ac at hv ⊢
  rw [t_of (a := iZ (if ac then 0 else fa)) (m1 := m) (by rw [hv]; cases ac <;> rfl)]
  rw [te_lv, t_of (of_run hr hd10 (k := 1) (kv := 1) (by decide) rfl (i := 111 + 10 * d) (by omega))]
  rw [t_of (a := iZ (if ac then fa else 0)) (m1 := m) (by rw [hv]; cases ac <;> rfl)]
  rw [te_lv, te_sI]
  have ex : r (110 + 10 * d) + iZ (if ac then 0 else fa) = iZ (if ac then (r (110 + 10 * d)).toInt else (r (110 + 10 * d)).toInt + fa) := by
    conv => lhs; rw [hxz, iZ_add]
    cases ac <;> simp
  have ey : r (111 + 10 * d) + iZ (if ac then fa else 0) = iZ (if ac then (r (111 + 10 * d)).toInt + fa else (r (111 + 10 * d)).toInt) := by
    conv => lhs; rw [hyz, iZ_add]
    cases ac <;> simp
  rw [ex, ey]
  have e0 : uI m 26 0 = lfM m [] := rfl
  rw [e0]
  have el : r (113 + 10 * d) = nI (rN r (113 + 10 * d)) := l1
  rw [el]
  have erl : (nI (rN r (113 + 10 * d))).toNatClampNeg = rN r (113 + 10 * d) := nI_clamp (by omega)
  by_cases h1 : a = 1
  · subst h1
    rw [if_pos (show nI 1 = 1 from rfl), t_of (a := nI (if rN r (113 + 10 * d) ≤ 1 then 1 else rN r (113 + 10 * d) - 1)) (m1 := lfM m []) (by
      by_cases hp : rN r (113 + 10 * d) ≤ 1
      · rw [if_pos (show nI (rN r (113 + 10 * d)) ≤ 1 from (nI_le_iff (b := 1) (by omega) (by decide)).mpr hp), if_pos hp]; rfl
      · rw [if_neg (show ¬ nI (rN r (113 + 10 * d)) ≤ 1 from fun z => hp ((nI_le_iff (b := 1) (by omega) (by decide)).mp z)), if_neg hp]
        show some (nI _ - 1, _) = _
        rw [show nI (rN r (113 + 10 * d)) = nI (rN r (113 + 10 * d) - 1) + 1 by rw [← nI_succ]; congr 1; omega]
        congr 2
        exact Int32.add_sub_cancel _ _)]
    rw [t_of (leafA_run l3 hv)]
    rfl
  · rw [if_neg (show ¬ nI a = 1 from fun z => h1 ((nI_inj (b := 1) (by omega) (by decide)).mp z)), t_of (leafB_run l3 ha h1 hv)]
    rfl
