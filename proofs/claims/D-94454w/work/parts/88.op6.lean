set_option maxRecDepth 100000
theorem insS_len (c : Nat) : ∀ l : List Nat, (insS c l).length ≤ l.length + 1
  | [] => by simp [insS]
  | y :: t => by
    have := insS_len c t
    unfold insS
    split
    · simp
    · split
      · simp
      · simp only [List.length_cons]; omega
theorem srt_len (L : List Nat) : (srt L).length ≤ L.length := by
  have : ∀ (L l : List Nat), (L.foldl (fun l c => insS c l) l).length ≤ l.length + L.length := by
    intro L
    induction L with
    | nil => intro l; simp
    | cons c L ih =>
      intro l
      have a := ih (insS c l)
      have b := insS_len c l
      rw [List.foldl_cons, List.length_cons]
      omega
  have := this L []
  simpa [srt] using this
theorem leafC_len {r : Row} (ok : okRow r) {d : Nat} (hd : d < rN r 2) (h a : Nat) : (leafC r d h a).length ≤ 4 := by
  unfold leafC
  rw [List.length_map]
  exact Nat.le_trans (List.length_filter_le _ _) (okLen ok hd h a)
def pcC (c : Nat) : Int × Int := (((c % 10 : Nat) : Int), ((c / 10 : Nat) : Int))
def hits (L : List (Int × Int)) (c : Nat) : List Nat := (L.filter fun p => decide (p = pcC c)).map fun _ => c
theorem c100 : ∀ c : Nat, c < 100 → nI c - nI c / 10 * 10 = nI (c % 10) ∧ nI c / 10 = nI (c / 10) := by decide
theorem iZ_nI {x : Int} {k : Nat} (h1 : -5 ≤ x) (h2 : x ≤ 20) (hk : k < 2 ^ 31) : (iZ x = nI k) ↔ x = (k : Int) := by
  rw [iZ_nat]
  constructor
  · intro e
    have := congrArg Int32.toInt e
    rw [iZ_toInt (by omega) (by omega), iZ_toInt (by omega) (by omega)] at this
    exact this
  · intro e; rw [e]
theorem hits_run {m : MS} {L : List (Int × Int)} (hL : L.length ≤ 4) (hb : ∀ p ∈ L, -5 ≤ p.1 ∧ p.1 ≤ 20 ∧ -5 ≤ p.2 ∧ p.2 ≤ 20) (p4 : Int32) {c : Nat} (hc : c < 100) : ∀ k i n, i + k = L.length → TM.loop (S := Int32 × Int32) (E := (Int32 × Int32) ⊕ Int32) (fun s9 => TM.bind (tI 26) (fun v12 => if v12 ≤ s9.2 then TM.lv (nI c + 1) (fun v13 => TM.pure (Sum.inr (Sum.inl (s9.1, v13)))) else TM.bind (tA 24 4 s9.2) (fun v14 => if v14 = (nI c - nI c / 10 * 10) then TM.bind (tA 25 4 s9.2) (fun v16 => if v16 = (nI c / 10) then if s9.1 = p4 then TM.pure (Sum.inr (Sum.inr (nI c))) else TM.lv (s9.1 + 1) (fun v17 => TM.lv (s9.2 + 1) (fun v18 => TM.pure (Sum.inl (v17, v18)))) else TM.lv (s9.2 + 1) (fun v19 => TM.pure (Sum.inl (s9.1, v19)))) else TM.lv (s9.2 + 1) (fun v15 => TM.pure (Sum.inl (s9.1, v15)))))) (nI n, nI i) (lfM m L) = some ((match nth p4 (hits (L.drop i) c) n with | some c' => Sum.inr (nI c') | none => Sum.inl (nI (n + (hits (L.drop i) c).length), nI (c + 1))), lfM m L) := by
  obtain ⟨a1, a2, a3, a4, a5⟩ := lfM_get (m := m) hL
  obtain ⟨c1, c2⟩ := c100 c hc
  rw [c1, c2]
  intro k
  induction k with
  | zero =>
    intro i n hi
    have : i = L.length := by omega
    subst this
    refine TM.loop_inr ?_
    rw [te_I, a1, if_pos (nI_le (Nat.le_refl _) (by omega)), List.drop_length, te_lv, nI_succ]
    rfl
  | succ k ih =>
    intro i n hi
    have hlt : i < L.length := by omega
    obtain ⟨g1, g2⟩ := a5 i hlt
    have hp := hb L[i] (List.getElem_mem hlt)
    have hgi : gIn (nI i) 4 = true := gIn_nI (by omega) (by decide)
    have hcl : (nI i).toNatClampNeg = i := nI_clamp (by omega)
    have hdrop : L.drop i = L[i] :: L.drop (i + 1) := List.drop_eq_getElem_cons hlt
    generalize hq : L[i] = q at g1 g2 hp hdrop
    obtain ⟨x, y⟩ := q
    have e1 : (iZ x = nI (c % 10)) ↔ x = ((c % 10 : Nat) : Int) := iZ_nI hp.1 hp.2.1 (by omega)
    have e2 : (iZ y = nI (c / 10)) ↔ y = ((c / 10 : Nat) : Int) := iZ_nI hp.2.2.1 hp.2.2.2 (by omega)
    have hh : hits (L.drop i) c = (if (x, y) = pcC c then [c] else []) ++ hits (L.drop (i + 1)) c := by
      rw [hdrop]
      unfold hits
      by_cases z : (x, y) = pcC c
      · simp [z]
      · simp [z]
    by_cases h1 : x = ((c % 10 : Nat) : Int)
    · by_cases h2 : y = ((c / 10 : Nat) : Int)
      · have hz : (x, y) = pcC c := by unfold pcC; rw [h1, h2]
        rw [if_pos hz] at hh
        by_cases h3 : nI n = p4
        · refine TM.loop_inr ?_
          rw [te_I, a1, if_neg (nI_ge hlt (by omega)), te_A hgi, hcl, g1, if_pos (e1.mpr h1), te_A hgi, hcl, g2, if_pos (e2.mpr h2), if_pos h3, hh, List.singleton_append, nth_cons, if_pos h3]
          rfl
        · rw [TM.loop_inl (s' := (nI (n + 1), nI (i + 1))) (m1 := lfM m L) (by
            rw [te_I, a1, if_neg (nI_ge hlt (by omega)), te_A hgi, hcl, g1, if_pos (e1.mpr h1), te_A hgi, hcl, g2, if_pos (e2.mpr h2), if_neg h3, te_lv, te_lv, nI_succ, nI_succ]; rfl)]
          rw [ih (i + 1) (n + 1) (by omega), hh, List.singleton_append, nth_cons, if_neg h3, List.length_cons]
          rw [show n + 1 + (hits (L.drop (i + 1)) c).length = n + ((hits (L.drop (i + 1)) c).length + 1) by omega]
      · have hz : ¬ (x, y) = pcC c := fun z => h2 (Prod.mk.inj z).2
        rw [if_neg hz] at hh
        rw [TM.loop_inl (s' := (nI n, nI (i + 1))) (m1 := lfM m L) (by
            rw [te_I, a1, if_neg (nI_ge hlt (by omega)), te_A hgi, hcl, g1, if_pos (e1.mpr h1), te_A hgi, hcl, g2, if_neg (fun z => h2 (e2.mp z)), te_lv, nI_succ]; rfl)]
        rw [ih (i + 1) n (by omega), hh, List.nil_append]
    · have hz : ¬ (x, y) = pcC c := fun z => h1 (Prod.mk.inj z).1
      rw [if_neg hz] at hh
      rw [TM.loop_inl (s' := (nI n, nI (i + 1))) (m1 := lfM m L) (by
            rw [te_I, a1, if_neg (nI_ge hlt (by omega)), te_A hgi, hcl, g1, if_neg (fun z => h1 (e1.mp z)), te_lv, nI_succ]; rfl)]
      rw [ih (i + 1) n (by omega), hh, List.nil_append]
def hitsFrom (L : List (Int × Int)) (c k : Nat) : List Nat := (List.range' c k).flatMap (hits L)
theorem hitsFrom_succ (L : List (Int × Int)) (c k : Nat) : hitsFrom L c (k + 1) = hits L c ++ hitsFrom L (c + 1) k := by
  unfold hitsFrom
  rw [List.range'_succ, List.flatMap_cons]
theorem leafLoop_run {m : MS} {L : List (Int × Int)} (hL : L.length ≤ 4) (hb : ∀ p ∈ L, -5 ≤ p.1 ∧ p.1 ≤ 20 ∧ -5 ≤ p.2 ∧ p.2 ≤ 20) (p4 : Int32) : ∀ k c n, c + k = 100 → TM.loop (S := Int32 × Int32) (E := Int32) (fun s6 => if 100 ≤ s6.2 then TM.pure (Sum.inr (-1)) else TM.loop (S := Int32 × Int32) (fun s9 => TM.bind (tI 26) (fun v12 => if v12 ≤ s9.2 then TM.lv (s6.2 + 1) (fun v13 => TM.pure (Sum.inr (Sum.inl (s9.1, v13)))) else TM.bind (tA 24 4 s9.2) (fun v14 => if v14 = (s6.2 - s6.2 / 10 * 10) then TM.bind (tA 25 4 s9.2) (fun v16 => if v16 = (s6.2 / 10) then if s9.1 = p4 then TM.pure (Sum.inr (Sum.inr s6.2)) else TM.lv (s9.1 + 1) (fun v17 => TM.lv (s9.2 + 1) (fun v18 => TM.pure (Sum.inl (v17, v18)))) else TM.lv (s9.2 + 1) (fun v19 => TM.pure (Sum.inl (s9.1, v19)))) else TM.lv (s9.2 + 1) (fun v15 => TM.pure (Sum.inl (s9.1, v15)))))) (s6.1, 0)) (nI n, nI c) (lfM m L) = some ((match nth p4 (hitsFrom L c k) n with | some c' => nI c' | none => -1), lfM m L) := by
  intro k
  induction k with
  | zero =>
    intro c n hc
    have : c = 100 := by omega
    subst this
    refine TM.loop_inr ?_
    rfl
  | succ k ih =>
    intro c n hc
    have hlt : c < 100 := by omega
    have hn : ¬ (100 : Int32) ≤ nI c := fun z => absurd ((nI_le_iff (a := 100) (by decide) (by omega)).mp z) (by omega)
    have hi := hits_run (m := m) hL hb p4 hlt L.length 0 n (by omega)
    rw [List.drop_zero] at hi
    rw [hitsFrom_succ, nth_app]
    cases hm : nth p4 (hits L c) n with
    | some c' =>
      rw [hm] at hi
      refine TM.loop_inr ?_
      show (if 100 ≤ nI c then _ else _ : TM _) _ = _
      rw [if_neg hn]
      exact hi
    | none =>
      rw [hm] at hi
      rw [TM.loop_inl (s' := (nI (n + (hits L c).length), nI (c + 1))) (m1 := lfM m L) (by
        show (if 100 ≤ nI c then _ else _ : TM _) _ = _
        rw [if_neg hn]
        exact hi)]
      exact ih (c + 1) _ (by omega)
/-- a leaf's cells are told once each -/
theorem leafL_nodup {r : Row} (ok : okRow r) {d : Nat} (hd : d < rN r 2) (h a : Nat) : (leafL r d h a).Nodup := by
  have hl := (ok.2.2.2.2.2.1 d hd).2.2.2.1.2.2
  unfold leafL
  generalize rN r (113 + 10 * d) = len at hl
  generalize (r (110 + 10 * d)).toInt = x
  generalize (r (111 + 10 * d)).toInt = y
  generalize (r (112 + 10 * d) == 1) = ac
  unfold leafZ
  dsimp only
  rcases (show len = 0 ∨ len = 1 ∨ len = 2 ∨ len = 3 by omega) with rfl | rfl | rfl | rfl <;> by_cases h1 : a = 1 <;> by_cases h2 : h % 2 = 0 <;> by_cases h3 : h < 2 <;> by_cases h4 : a = 0 <;> cases ac <;> simp [h1, h2, h3, h4, List.range_succ, List.range_zero] <;> omega
