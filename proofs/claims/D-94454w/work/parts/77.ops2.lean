set_option maxRecDepth 100000
theorem rng (p : Int32) {n : Int32} {k : Nat} (hn : n = nI k) (hk : k < 2 ^ 31) : (isInB p 0 (n - 1) = true ∧ p = nI p.toNatClampNeg ∧ p.toNatClampNeg < k ∧ ¬ p < 0 ∧ ¬ n ≤ p) ∨ (isInB p 0 (n - 1) = false ∧ (p < 0 ∨ n ≤ p)) := by
  subst hn
  cases hb : isInB p 0 (nI k - 1) with
  | true =>
    obtain ⟨h1, h2⟩ := (isInB_n hk).mp hb
    have h3 : p.toNatClampNeg < 2 ^ 31 := by omega
    refine Or.inl ⟨rfl, h1, h2, by rw [h1]; exact nI_pos h3, ?_⟩
    rw [h1, nI_le_iff hk h3]
    omega
  | false =>
    refine Or.inr ⟨rfl, ?_⟩
    by_cases h0 : p < 0
    · exact Or.inl h0
    · right
      obtain ⟨h1, h2⟩ := nI_self h0
      rw [h1, nI_le_iff hk h2]
      refine Nat.not_lt.mp fun z => ?_
      have := (isInB_n (p := p) hk).mpr ⟨h1, z⟩
      rw [hb] at this
      cases this
theorem gIn_of {p : Int32} {k n : Nat} (h1 : p = nI p.toNatClampNeg) (h2 : p.toNatClampNeg < k) (h3 : k ≤ n) (hn : n < 2 ^ 31) : gIn p n = true := by
  rw [h1]
  exact gIn_nI (by omega) hn
theorem op_17 {n : Nat} {h : gH} (R : Rel n h) (a : Nat → Int32) : OpOk n h (LS_17 n (n + 50) (n + 83) a) := by
  obtain ⟨F, g, xs, ms, rfl, R⟩ := R
  obtain ⟨q1, q2, q3, q4⟩ := R.2.2.2.2.2.2.2.1
  rcases rng (a 1) q2 (by omega) with ⟨b1, b2, b3, b4, b5⟩ | ⟨b1, b2⟩
  · have hg := gIn_of b2 b3 q3 (by decide)
    refine OpOk.of (v := xs.2.2.1 22 (a 1).toNatClampNeg) (xs' := xs) (g' := g) (by unfold M_X1_forced; rw [x_chk, x_I24, ev_call (isIn_run _ _ _ _), b1]; simp only [cond_true, Mo.bind_assoc, Mo.pure_bind]; rw [x_R22, x_A31 hg]; rfl) (ms' := uI ms 0 0) ?_ (R.t0 0) (by omega) (by omega)
    unfold M_X10_forced
    rw [te_sI, t_of (a := ms.2.2.1 35 (a 1).toNatClampNeg) (m1 := uI ms 0 0) ?_]
    · rw [q4 _ b3]; rfl
    · rw [if_neg b4, te_I, if_neg (show ¬ (uI ms 0 0).1 38 ≤ a 1 by show ¬ ms.1 38 ≤ a 1; rw [← q1]; exact b5), te_A hg]; rfl
  · refine OpOk.of (v := -1) (xs' := xs) (g' := g) (by unfold M_X1_forced; rw [x_chk, x_I24, ev_call (isIn_run _ _ _ _), b1]; rfl) (ms' := uI ms 0 0) ?_ (R.t0 0) (by omega) (by omega)
    unfold M_X10_forced
    rw [te_sI, t_of (a := -1) (m1 := uI ms 0 0) ?_]
    · rfl
    · by_cases b0 : a 1 < 0
      · rw [if_pos b0]; rfl
      · rw [if_neg b0, te_I, if_pos (show (uI ms 0 0).1 38 ≤ a 1 by show ms.1 38 ≤ a 1; rw [← q1]; exact b2.resolve_left b0)]; rfl
theorem op_18 {n : Nat} {h : gH} (R : Rel n h) (a : Nat → Int32) : OpOk n h (LS_18 n (n + 50) (n + 83) a) := by
  obtain ⟨F, g, xs, ms, rfl, R⟩ := R
  obtain ⟨q1, q2, q3, q4⟩ := R.2.2.2.2.2.2.2.2.1
  rcases rng (a 1) q2 (by omega) with ⟨b1, b2, b3, b4, b5⟩ | ⟨b1, b2⟩
  · have hg := gIn_of b2 b3 q3 (by decide)
    refine OpOk.of (v := xs.2.2.1 23 (a 1).toNatClampNeg) (xs' := xs) (g' := g) (by unfold M_X1_forcedAt; rw [x_chk, x_I25, ev_call (isIn_run _ _ _ _), b1]; simp only [cond_true, Mo.bind_assoc, Mo.pure_bind]; rw [x_R23, x_A32 hg]; rfl) (ms' := uI ms 0 0) ?_ (R.t0 0) (by omega) (by omega)
    unfold M_X10_forcedAt
    rw [te_sI, t_of (a := ms.2.2.1 36 (a 1).toNatClampNeg) (m1 := uI ms 0 0) ?_]
    · rw [q4 _ b3]; rfl
    · rw [if_neg b4, te_I, if_neg (show ¬ (uI ms 0 0).1 37 ≤ a 1 by show ¬ ms.1 37 ≤ a 1; rw [← q1]; exact b5), te_A hg]; rfl
  · refine OpOk.of (v := -1) (xs' := xs) (g' := g) (by unfold M_X1_forcedAt; rw [x_chk, x_I25, ev_call (isIn_run _ _ _ _), b1]; rfl) (ms' := uI ms 0 0) ?_ (R.t0 0) (by omega) (by omega)
    unfold M_X10_forcedAt
    rw [te_sI, t_of (a := -1) (m1 := uI ms 0 0) ?_]
    · rfl
    · by_cases b0 : a 1 < 0
      · rw [if_pos b0]; rfl
      · rw [if_neg b0, te_I, if_pos (show (uI ms 0 0).1 37 ≤ a 1 by show ms.1 37 ≤ a 1; rw [← q1]; exact b2.resolve_left b0)]; rfl
theorem op_21 {n : Nat} {h : gH} (R : Rel n h) (a : Nat → Int32) : OpOk n h (LS_21 n (n + 50) (n + 83) a) := by
  obtain ⟨F, g, xs, ms, rfl, R⟩ := R
  obtain ⟨q1, q2, q3, q4⟩ := R.2.2.2.2.2.2.2.2.2.1
  rcases rng (a 1) q2 (by omega) with ⟨b1, b2, b3, b4, b5⟩ | ⟨b1, b2⟩
  · have hg := gIn_of b2 b3 q3 (by decide)
    refine OpOk.of (v := xs.2.2.1 27 (a 1).toNatClampNeg) (xs' := xs) (g' := g) (by unfold M_X1_joinerAt; rw [x_chk, x_I31, ev_call (isIn_run _ _ _ _), b1]; simp only [cond_true, Mo.bind_assoc, Mo.pure_bind]; rw [x_R27, x_A34 hg]; rfl) (ms' := uI ms 0 0) ?_ (R.t0 0) (by omega) (by omega)
    unfold M_X10_joinerAt
    rw [te_sI, t_of (a := ms.2.2.1 41 (a 1).toNatClampNeg) (m1 := uI ms 0 0) ?_]
    · rw [q4 _ b3]; rfl
    · rw [if_neg b4, te_I, if_neg (show ¬ (uI ms 0 0).1 42 ≤ a 1 by show ¬ ms.1 42 ≤ a 1; rw [← q1]; exact b5), te_A hg]; rfl
  · refine OpOk.of (v := -1) (xs' := xs) (g' := g) (by unfold M_X1_joinerAt; rw [x_chk, x_I31, ev_call (isIn_run _ _ _ _), b1]; rfl) (ms' := uI ms 0 0) ?_ (R.t0 0) (by omega) (by omega)
    unfold M_X10_joinerAt
    rw [te_sI, t_of (a := -1) (m1 := uI ms 0 0) ?_]
    · rfl
    · by_cases b0 : a 1 < 0
      · rw [if_pos b0]; rfl
      · rw [if_neg b0, te_I, if_pos (show (uI ms 0 0).1 42 ≤ a 1 by show ms.1 42 ≤ a 1; rw [← q1]; exact b2.resolve_left b0)]; rfl
theorem op_32 {n : Nat} {h : gH} (R : Rel n h) (a : Nat → Int32) : OpOk n h (LS_32 n (n + 50) (n + 83) a) := by
  obtain ⟨F, g, xs, ms, rfl, R⟩ := R
  obtain ⟨q1, q2, q3, q4⟩ := R.2.2.2.2.2.2.2.2.2.2.1
  rcases rng (a 1) q2 (by omega) with ⟨b1, b2, b3, b4, b5⟩ | ⟨b1, b2⟩
  · have hg := gIn_of b2 b3 q3 (by decide)
    refine OpOk.of (v := xs.2.2.1 37 (a 1).toNatClampNeg) (xs' := xs) (g' := g) (by unfold M_X1_wayAt; rw [x_chk, x_I39, ev_call (isIn_run _ _ _ _), b1]; simp only [cond_true, Mo.bind_assoc, Mo.pure_bind]; rw [x_R37, x_A42 hg]; rfl) (ms' := uI ms 0 0) ?_ (R.t0 0) (by omega) (by omega)
    unfold M_X10_wayAt
    rw [te_sI, t_of (a := ms.2.2.1 54 (a 1).toNatClampNeg) (m1 := uI ms 0 0) ?_]
    · rw [q4 _ b3]; rfl
    · rw [if_neg b4, te_I, if_neg (show ¬ (uI ms 0 0).1 57 ≤ a 1 by show ¬ ms.1 57 ≤ a 1; rw [← q1]; exact b5), te_A hg]; rfl
  · refine OpOk.of (v := -1) (xs' := xs) (g' := g) (by unfold M_X1_wayAt; rw [x_chk, x_I39, ev_call (isIn_run _ _ _ _), b1]; rfl) (ms' := uI ms 0 0) ?_ (R.t0 0) (by omega) (by omega)
    unfold M_X10_wayAt
    rw [te_sI, t_of (a := -1) (m1 := uI ms 0 0) ?_]
    · rfl
    · by_cases b0 : a 1 < 0
      · rw [if_pos b0]; rfl
      · rw [if_neg b0, te_I, if_pos (show (uI ms 0 0).1 57 ≤ a 1 by show ms.1 57 ≤ a 1; rw [← q1]; exact b2.resolve_left b0)]; rfl
theorem op_29 {n : Nat} {h : gH} (R : Rel n h) (a : Nat → Int32) : OpOk n h (LS_29 n (n + 50) (n + 83) a) := by
  obtain ⟨F, g, xs, ms, rfl, R⟩ := R
  have hT : ∀ (v : Int32), (isInB (a 1) 0 4 = true → ms.2.2.1 48 (a 1).toNatClampNeg = v) → (isInB (a 1) 0 4 = false → v = -2) → M_X10_judged (a 1) ms = some (v, uI ms 0 0) := by
    intro v h1 h2
    unfold M_X10_judged
    rw [te_sI, t_of (isIn_runT _ _ _ _)]
    cases hb : isInB (a 1) 0 4 with
    | true =>
      obtain ⟨c1, c2⟩ := (isInB_n (n := 5) (by decide)).mp hb
      simp only [cond_true]
      rw [t_of (a := v) (m1 := uI ms 0 0) ?_]
      · rfl
      · rw [te_A (gIn_of c1 c2 (Nat.le_refl _) (by decide))]
        show some (ms.2.2.1 48 (a 1).toNatClampNeg, _) = _
        rw [h1 hb]
    | false => rw [h2 hb]; rfl
  rcases R.2.2.2.2.2.2.2.2.2.2.2.2 with ⟨j1, j2⟩ | ⟨j1, j2⟩
  · refine OpOk.of (v := -2) (xs' := xs) (g' := g) (by unfold M_X1_judged; rw [x_chk, x_Z33 (v := false) j1]; rfl) (ms' := uI ms 0 0) (hT _ (fun hb => ?_) (fun _ => rfl)) (R.t0 0) (by omega) (by omega)
    obtain ⟨c1, c2⟩ := (isInB_n (n := 5) (by decide)).mp hb
    exact j2 _ c2
  · cases hb : isInB (a 1) 0 4 with
    | true =>
      obtain ⟨c1, c2⟩ := (isInB_n (n := 5) (by decide)).mp hb
      refine OpOk.of (v := xs.2.2.1 32 (a 1).toNatClampNeg) (xs' := xs) (g' := g) (by unfold M_X1_judged; rw [x_chk, x_Z33 (v := true) j1]; simp only [cond_true, Mo.bind_assoc, Mo.pure_bind]; rw [ev_call (isIn_run _ _ _ _), hb]; simp only [cond_true, Mo.bind_assoc, Mo.pure_bind]; rw [x_R32, x_A38 (gIn_of c1 c2 (Nat.le_refl _) (by decide))]; rfl) (ms' := uI ms 0 0) (hT _ (fun _ => (j2 _ c2).symm) (fun z => by rw [hb] at z; cases z)) (R.t0 0) (by omega) (by omega)
    | false =>
      refine OpOk.of (v := -2) (xs' := xs) (g' := g) (by unfold M_X1_judged; rw [x_chk, x_Z33 (v := true) j1]; simp only [cond_true, Mo.bind_assoc, Mo.pure_bind]; rw [ev_call (isIn_run _ _ _ _), hb]; rfl) (ms' := uI ms 0 0) (hT _ (fun z => by rw [hb] at z; cases z) (fun _ => rfl)) (R.t0 0) (by omega) (by omega)
