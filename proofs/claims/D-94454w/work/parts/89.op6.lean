set_option maxRecDepth 100000
theorem pcC_in {c : Nat} (hc : c < 100) : inG (pcC c) = true ∧ cellN (pcC c) = c := by
  unfold inG pcC cellN
  simp only [Bool.and_eq_true, decide_eq_true_eq]
  omega
theorem inG_pc {p : Int × Int} (h : inG p = true) : p = pcC (cellN p) ∧ cellN p < 100 := by
  obtain ⟨x, y⟩ := p
  unfold inG at h
  simp only [Bool.and_eq_true, decide_eq_true_eq] at h
  unfold pcC cellN
  dsimp only
  refine ⟨Prod.ext ?_ ?_, ?_⟩ <;> (try dsimp only) <;> omega
theorem filter_one {α : Type} [DecidableEq α] (x : α) : ∀ (L : List α), L.Nodup → (L.filter fun p => decide (p = x)) = if x ∈ L then [x] else []
  | [], _ => rfl
  | y :: L, h => by
    obtain ⟨h1, h2⟩ := List.nodup_cons.mp h
    have ih := filter_one x L h2
    by_cases e : y = x
    · subst e
      rw [List.filter_cons_of_pos (by simp), ih, if_neg h1, if_pos (by simp)]
    · rw [List.filter_cons_of_neg (by simp [e]), ih]
      have e' : ¬ x = y := fun z => e z.symm
      simp [e']
theorem hits_one {L : List (Int × Int)} (h : L.Nodup) (c : Nat) : hits L c = if pcC c ∈ L then [c] else [] := by
  unfold hits
  rw [filter_one _ L h]
  split <;> rfl
theorem hitsFrom_ok {L : List (Int × Int)} (h : L.Nodup) : ∀ k c, (hitsFrom L c k).Pairwise (· < ·) ∧ ∀ x, x ∈ hitsFrom L c k ↔ (c ≤ x ∧ x < c + k ∧ pcC x ∈ L) := by
  intro k
  induction k with
  | zero =>
    intro c
    refine ⟨List.Pairwise.nil, fun x => ?_⟩
    have : hitsFrom L c 0 = [] := rfl
    rw [this]
    simp
    omega
  | succ k ih =>
    intro c
    obtain ⟨i1, i2⟩ := ih (c + 1)
    rw [hitsFrom_succ, hits_one h]
    by_cases hc : pcC c ∈ L
    · rw [if_pos hc, List.singleton_append]
      refine ⟨List.pairwise_cons.mpr ⟨fun z hz => ?_, i1⟩, fun x => ?_⟩
      · have := ((i2 z).mp hz).1; omega
      · rw [List.mem_cons, i2 x]
        constructor
        · rintro (e | ⟨e1, e2, e3⟩)
          · subst e; exact ⟨Nat.le_refl _, by omega, hc⟩
          · exact ⟨by omega, by omega, e3⟩
        · rintro ⟨e1, e2, e3⟩
          by_cases e : x = c
          · exact Or.inl e
          · exact Or.inr ⟨by omega, by omega, e3⟩
    · rw [if_neg hc, List.nil_append]
      refine ⟨i1, fun x => ?_⟩
      rw [i2 x]
      constructor
      · rintro ⟨e1, e2, e3⟩; exact ⟨by omega, by omega, e3⟩
      · rintro ⟨e1, e2, e3⟩
        by_cases e : x = c
        · subst e; exact absurd e3 hc
        · exact ⟨by omega, by omega, e3⟩
theorem leafC_mem {r : Row} {d h a x : Nat} : x ∈ leafC r d h a ↔ x < 100 ∧ pcC x ∈ leafL r d h a := by
  unfold leafC
  rw [List.mem_map]
  constructor
  · rintro ⟨p, hp, rfl⟩
    obtain ⟨h1, h2⟩ := List.mem_filter.mp hp
    obtain ⟨e1, e2⟩ := inG_pc h2
    exact ⟨e2, by rw [← e1]; exact h1⟩
  · rintro ⟨h1, h2⟩
    obtain ⟨e1, e2⟩ := pcC_in h1
    exact ⟨_, List.mem_filter.mpr ⟨h2, e1⟩, e2⟩
theorem hits_srt {r : Row} (ok : okRow r) {d : Nat} (hd : d < rN r 2) (h a : Nat) : hitsFrom (leafL r d h a) 0 100 = srt (leafC r d h a) := by
  obtain ⟨e1, e2⟩ := hitsFrom_ok (leafL_nodup ok hd h a) 100 0
  refine sorted_eq _ _ e1 (srt_sorted _) (fun x => ?_)
  rw [e2, srt_mem, leafC_mem]
  constructor
  · rintro ⟨-, h1, h2⟩; exact ⟨by omega, h2⟩
  · rintro ⟨h1, h2⟩; exact ⟨by omega, by omega, h2⟩
/-- the class's leaf -/
theorem dleaf_run {F : Fz} {h : gH} {q : Nat} {r : Row} {nm : Nat → Int64} {d : Nat} (Z : Frz F h) (D : IsDoor F q r nm d) {k a : Nat} (hk : k < 4) (ha : a < 3) : ∃ c, IsCells F c (leafC r d k a) ((leafL r d k a).any fun p => !inG p) ∧ (M_X11_leaf_2 q (nI k) (nI a)).1 h = some (c, h) := by
  obtain ⟨na, lv, sw, cn, hg, fl, fs, fc, d1, d2, d3, d4, d5, d6, d7, d8⟩ := D
  obtain ⟨c, c1, c2⟩ := d6 k a hk ha
  refine ⟨c, c2, ?_⟩
  unfold M_X11_leaf_2
  rw [ev_chk (Z _ _ d1) (by decide), ev_R (Z _ _ d1) (by decide) rfl]
  have e : 3 * nI k + nI a = nI (3 * k + a) := by rw [← nI_add, ← nI_mul]; rfl
  rw [e, ev_aldR (Z _ _ d3) (gIn_nI (by omega) (by decide)) (by rw [nI_clamp (by omega)]; exact c1)]
  rfl
theorem isIn2_iff {p : Int32} : isInB p 0 2 = true ↔ p = nI p.toNatClampNeg ∧ p.toNatClampNeg < 3 := isInB_n (n := 3) (by decide)
theorem RelC.lf {n : Nat} {F : Fz} {g : gH} {xs : XS} {ms : MS} (R : RelC n F g xs ms) {L : List (Int × Int)} (hl : L.length ≤ 4) : RelC n F g xs (lfM ms L) := by
  obtain ⟨-, a2, a3, a4, -⟩ := lfM_get (m := ms) hl
  refine R.ms (fun k hk => a2 k ?_) (fun k hk => a3 k ?_ ?_) (fun k hk => by rw [a4])
  · intro e; subst e; exact absurd hk (by decide)
  · intro e; subst e; exact absurd hk (by decide)
  · intro e; subst e; exact absurd hk (by decide)
theorem op_6 {n : Nat} {h : gH} (R : Rel n h) (a : Nat → Int32) : OpOk n h (LS_6 n (n + 50) (n + 83) a) := by
  obtain ⟨F, g, xs, ms, rfl, R⟩ := R
  have R := R.t0 0
  obtain ⟨ho, dy, e1, e2, hH, ok, -⟩ := R.2.2.2.2.2.1
  have hl := lay_run R.2.2.2.2.1
  have hr := (lyd_row R.2.2.2.2.1).1
  have Z : Frz F (mkX n (mkM (n + 50) g ms) xs) := by
    intro q c hq
    have := R.1.frozen (ms := ms) hq
    rw [mk_comm] at this
    exact this
  have RL := R.lyd
  generalize hrw : eRow (uI ms 0 0) = r at hr ok hH
  generalize hml : lyd (uI ms 0 0) = m1 at hr RL hl
  have hm := ok.2.2.1.2
  cases hb : isDoorB r (a 1) with
  | false =>
    refine OpOk.of (F' := F) (v := -1) (g' := g) (xs' := xs) ?_ (ms' := m1) ?_ RL (by omega) (by omega)
    · unfold M_X1_leaf; rw [x_chk, ev_call (isDoor_run Z e1 hH _), hb]; rfl
    · unfold M_X10_leaf; rw [te_sI, t_of hl, t_of (isDoor_runT hr ok _), hb]; rfl
  | true =>
    obtain ⟨p1, p2⟩ := (isDoorB_iff ok).mp hb
    cases hc : isInB (a 2) 0 3 with
    | false =>
      refine OpOk.of (F' := F) (v := -1) (g' := g) (xs' := xs) ?_ (ms' := m1) ?_ RL (by omega) (by omega)
      · unfold M_X1_leaf; rw [x_chk, ev_call (isDoor_run Z e1 hH _), hb]
        simp only [cond_true, Mo.bind_assoc, Mo.pure_bind]
        rw [ev_call (isHang_run _ _), hc]; rfl
      · unfold M_X10_leaf; rw [te_sI, t_of hl, t_of (isDoor_runT hr ok _), hb]
        simp only [cond_true]
        rw [t_of (isIn_runT _ _ _ _), hc]; rfl
    | true =>
      cases he : isInB (a 3) 0 2 with
      | false =>
        refine OpOk.of (F' := F) (v := -1) (g' := g) (xs' := xs) ?_ (ms' := m1) ?_ RL (by omega) (by omega)
        · unfold M_X1_leaf; rw [x_chk, ev_call (isDoor_run Z e1 hH _), hb]
          simp only [cond_true, Mo.bind_assoc, Mo.pure_bind]
          rw [ev_call (isHang_run _ _), hc]
          simp only [cond_true, Mo.bind_assoc, Mo.pure_bind]
          rw [ev_call (isIn_run _ _ _ _), he]; rfl
        · unfold M_X10_leaf; rw [te_sI, t_of hl, t_of (isDoor_runT hr ok _), hb]
          simp only [cond_true]
          rw [t_of (isIn_runT _ _ _ _), hc]
          simp only [cond_true]
          rw [t_of (isIn_runT _ _ _ _), he]; rfl
      | true =>
        obtain ⟨q1, q2⟩ := isHang_iff.mp hc
        obtain ⟨s1, s2⟩ := isIn2_iff.mp he
        obtain ⟨q, D, e3⟩ := at_run Z e1 hH p2 hm
        obtain ⟨cc, C, e4⟩ := dleaf_run Z D q2 s2
        generalize hd : (a 1).toNatClampNeg = d at p1 p2 e3 C e4
        generalize hk : (a 2).toNatClampNeg = k at q1 q2 C e4
        generalize hk3 : (a 3).toNatClampNeg = z at s1 s2 C e4
        have h9 : (srt (leafC r d k z)).length ≤ 9 := Nat.le_trans (srt_len _) (Nat.le_trans (leafC_len ok p2 k z) (by decide))
        refine OpOk.of (F' := F) (v := (match nth (a 4) (srt (leafC r d k z)) 0 with | some c => nI c | none => -1)) (g' := g) (xs' := xs) ?_ (ms' := lfM m1 (leafL r d k z)) ?_ (RL.lf (okLen ok p2 k z)) (by omega) (by omega)
        · unfold M_X1_leaf; rw [x_chk, ev_call (isDoor_run Z e1 hH _), hb]
          simp only [cond_true, Mo.bind_assoc, Mo.pure_bind]
          rw [ev_call (isHang_run _ _), hc]
          simp only [cond_true, Mo.bind_assoc, Mo.pure_bind]
          rw [ev_call (isIn_run _ _ _ _), he]
          simp only [cond_true, Mo.bind_assoc, Mo.pure_bind]
          rw [p1, ev_call e3, q1, s1, ev_call e4, ev_call (getC_run Z C h9 _)]
          rfl
        · unfold M_X10_leaf; rw [te_sI, t_of hl, t_of (isDoor_runT hr ok _), hb]
          simp only [cond_true]
          rw [t_of (isIn_runT _ _ _ _), hc]
          simp only [cond_true]
          rw [t_of (isIn_runT _ _ _ _), he]
          simp only [cond_true]
          rw [p1, q1, s1, t_of (layLeaf_run hr ok p2 q2 s2), ← hits_srt ok p2]
          exact leafLoop_run (okLen ok p2 k z) (leafL_bound ok p2) (a 4) 100 0 0 rfl
