set_option maxRecDepth 100000
theorem mk_write {n : Nat} {g : gH} {xs : XS} {ms : MS} {q : Nat} {e : gA} {k : Nat × Nat} (hq : n + 83 ≤ q) : ((va_up (mkX n (mkM (n + 50) g ms) xs).1 q e, k) : gH) = mkX n (mkM (n + 50) (va_up g.1 q e, k) ms) xs := by
  refine Prod.ext ?_ rfl
  funext a
  show va_up (mkX n (mkM (n + 50) g ms) xs).1 q e a = _
  by_cases z : a = q
  · subst z
    obtain ⟨o, rfl⟩ : ∃ o, a = n + o := ⟨a - n, by omega⟩
    rw [mkX_at, xCell_else (fun hm => by simp only [mutO, List.mem_cons, List.not_mem_nil, or_false] at hm; omega)]
    simp only [mkM, va_up, if_neg (show ¬ n + o = n + 50 by omega), if_neg (show ¬ (n + 50 < n + o ∧ n + o ≤ n + 50 + 32) by omega), if_true]
  · simp only [va_up, if_neg z, mkX, mkM]
theorem imgAt_same {g g' : gH} {w : Option Nat} {q : Nat} (hw : ∀ a, w = some a → g'.1 a = g.1 a) : imgAt g' w q ↔ imgAt g w q := by
  constructor
  · rintro ⟨a, ho, ha, an, v, e1, e2, e3⟩
    exact ⟨a, ho, ha, an, v, e1, by rw [← hw a e1]; exact e2, e3⟩
  · rintro ⟨a, ho, ha, an, v, e1, e2, e3⟩
    exact ⟨a, ho, ha, an, v, e1, by rw [hw a e1]; exact e2, e3⟩
/-- new cells have come, or the law's own row of one long has changed -/
theorem RelC.g {n : Nat} {F : Fz} {g g' : gH} {xs : XS} {ms : MS} (R : RelC n F g xs ms) (h1 : ∀ a, a < g.2.1 → a ≠ n + 83 → g'.1 a = g.1 a) (h2 : ∃ f, g'.1 (n + 83) = .inl (1, 1, .inr (.inl f))) (h3 : g.2.1 ≤ g'.2.1) : RelC n F g' xs ms := by
  obtain ⟨r1, r2, r3, r4, r5, r6, r7, r8⟩ := R
  obtain ⟨s1, s2, s3, s4, s5, s6, s7, s8, s9, s10, s11⟩ := r1
  have hw : ∀ k, k < 2 → ∀ a, xs.2.2.2.2.2 43 k = some a → g'.1 a = g.1 a := by
    intro k hk a ha
    have hI := r7 k hk
    rcases hI with ⟨e, -⟩ | ⟨a', ho, ha', an, dy, mi, sh, pl, fh, fa, e1, e2, e3, e4, e5, e6, e7, e8, e9, e10, e11, e12, e13, e14, e15, e16⟩
    · rw [e] at ha; cases ha
    · rw [e1] at ha
      cases ha
      have := s10 k hk a ⟨a, .ref ho, ha', an, _, e1, e4, Or.inl rfl⟩
      exact h1 a e13 (by omega)
  refine ⟨⟨by omega, fun a c h => ?_, s3, s4, h2, s6, s7, s8, s9, fun k hk q hq => s10 k hk q ((imgAt_same (hw k hk)).mp hq), fun q hq hq2 => s11 q ((imgAt_same (hw 0 (by decide))).mp hq) ((imgAt_same (hw 1 (by decide))).mp hq2)⟩, r2, r3, r4, r5, r6, fun k hk => ?_, r8⟩
  · obtain ⟨t1, t2, t3⟩ := s2 a c h
    have : a ≠ n + 83 := fun e => by rw [e, s4 (n + 83) (by omega) (by omega)] at h; cases h
    exact ⟨(h1 a t3 this).trans t1, t2, by omega⟩
  · rcases r7 k hk with e | ⟨a', ho, ha', an, dy, mi, sh, pl, fh, fa, e1, e2, e3, e4, e5, e6, e7, e8, e9, e10, e11, e12, e13, e14, e15, e16⟩
    · exact Or.inl e
    · have i1 := s10 k hk a' ⟨a', .ref ho, ha', an, _, e1, e4, Or.inl rfl⟩
      have i2 := s10 k hk ha' ⟨a', .ref ho, ha', an, _, e1, e4, Or.inr (Or.inl rfl)⟩
      have i3 := s10 k hk an ⟨a', .ref ho, ha', an, _, e1, e4, Or.inr (Or.inr rfl)⟩
      exact Or.inr ⟨a', ho, ha', an, dy, mi, sh, pl, fh, fa, e1, e2, e3, (h1 a' e13 (by omega)).trans e4, (h1 ha' e14 (by omega)).trans e5, (h1 an e15 (by omega)).trans e6, e7, e8, e9, e10, e11, e12, by omega, by omega, by omega, e16⟩
theorem b2i_eq {x : Int32} (h : x = 0 ∨ x = 1) : b2i (x == 1) = x := by rcases h with e | e <;> rw [e] <;> decide
set_option maxHeartbeats 4000000 in
theorem op_5 {n : Nat} {h : gH} (R : Rel n h) (a : Nat → Int32) : OpOk n h (LS_5 n (n + 50) (n + 83) a) := by
  obtain ⟨F, g, xs, ms, rfl, R⟩ := R
  obtain ⟨ho, dy, e1, e2, hH, ok, hhg, han, -, hwk, -⟩ := R.2.2.2.2.2.1
  have hl := lay_run R.2.2.2.2.1
  have hr := (lyd_row R.2.2.2.2.1).1
  have Z := R.frz
  have RL := R.lyd
  have hsz := R.1.1
  generalize hrw : eRow ms = r at hr ok hH hhg han hwk
  generalize hml : lyd ms = m1 at hr RL hl
  have hm := ok.2.2.1.2
  -- refused
  have bad : ((M_X1_isDoor n (a 1)).1 (mkX n (mkM (n + 50) g ms) xs) = some (isDoorB r (a 1), mkX n (mkM (n + 50) g ms) xs)) → (isDoorB r (a 1) && isInB (a 2) 0 8) = false → OpOk n (mkM (n + 50) (mkX n g xs) ms) (LS_5 n (n + 50) (n + 83) a) := by
    intro hdr hb
    have hcl : (M_X0_door n (a 1) (a 2) (n + 83)).1 (mkM (n + 50) (mkX n g xs) ms) = some (1, mkM (n + 50) (mkX n (va_up g.1 g.2.1 gNse, g.2.1 + 1, g.2.2 + 6) xs) ms) := by
      rw [mk_comm, mk_comm]
      have hmust : (M_X1_must false).1 (mkX n (mkM (n + 50) g ms) xs) = some (Sum.inl g.2.1, mkX n (mkM (n + 50) (va_up g.1 g.2.1 gNse, g.2.1 + 1, g.2.2 + 6) ms) xs) := by
        unfold M_X1_must
        simp only [cond_false]
        rw [← mk_write (q := g.2.1) (e := gNse) (k := (g.2.1 + 1, g.2.2 + 6)) (by omega)]
        rfl
      have hcell : (mkX n (mkM (n + 50) (va_up g.1 g.2.1 gNse, g.2.1 + 1, g.2.2 + 6) ms) xs).1 g.2.1 = gNse := by
        rw [← mk_write (q := g.2.1) (e := gNse) (k := (g.2.1 + 1, g.2.2 + 6)) (by omega)]
        simp [va_up]
      have hdoor : (M_X1_door n (a 1) (a 2)).1 (mkX n (mkM (n + 50) g ms) xs) = some (Sum.inl g.2.1, mkX n (mkM (n + 50) (va_up g.1 g.2.1 gNse, g.2.1 + 1, g.2.2 + 6) ms) xs) := by
        unfold M_X1_door
        rw [x_chk, ev_call hdr]
        cases hd : isDoorB r (a 1) with
        | false =>
          simp only [cond_false, Mo.pure_bind]
          rw [ev_call hmust]
          rfl
        | true =>
          rw [hd, Bool.true_and] at hb
          simp only [cond_true, Mo.bind_assoc, Mo.pure_bind]
          rw [ev_call (isIn_run _ _ _ _), hb]
          simp only [cond_false, Mo.pure_bind]
          rw [ev_call hmust]
          rfl
      unfold M_X0_door
      rw [ev_call hdoor]
      show (Mo.bind (isNse g.2.1) _).1 _ = _
      rw [Mo.bind_of (a := ()) (h1 := mkX n (mkM (n + 50) (va_up g.1 g.2.1 gNse, g.2.1 + 1, g.2.2 + 6) ms) xs) ?_]
      · rfl
      · unfold isNse Mo.rd
        simp only [hcell]
        rfl
    have hT : M_X10_door (a 1) (a 2) ms = some (0, uI m1 0 1) := by
      unfold M_X10_door
      rw [t_of hl, t_of (isDoor_runT hr ok _)]
      cases hd : isDoorB r (a 1) with
      | false => rfl
      | true =>
        rw [hd, Bool.true_and] at hb
        simp only [cond_true]
        rw [t_of (isIn_runT _ _ _ _), hb]
        rfl
    refine ⟨_, ⟨1, _, mkX n (va_up g.1 g.2.1 gNse, g.2.1 + 1, g.2.2 + 6) xs, ms, 0, uI m1 0 1, uI m1 0 1, hcl, rfl, hT, rfl, rfl, fun z => absurd z (by decide)⟩, ⟨F, _, xs, _, rfl, ?_⟩, ?_, ?_⟩
    · refine (RL.t0 1).g (fun q hq _ => ?_) ?_ ?_
      · show va_up g.1 g.2.1 gNse q = g.1 q
        simp [va_up, Nat.ne_of_lt hq]
      · obtain ⟨f, hf⟩ := R.1.2.2.2.2.1
        exact ⟨f, by show va_up g.1 g.2.1 gNse (n + 83) = _; rw [← hf]; simp [va_up, show ¬ n + 83 = g.2.1 by omega]⟩
      · exact Nat.le_succ _
    · show g.2.1 + 1 ≤ g.2.1 + 9000; omega
    · show g.2.2 + 6 ≤ g.2.2 + 100000; omega
  have hdr := isDoor_run Z e1 hH (a 1)
  cases hb : (isDoorB r (a 1) && isInB (a 2) 0 8) with
  | false => exact bad hdr hb
  | true =>
    obtain ⟨hb1, hb2⟩ := (Bool.and_eq_true _ _).mp hb
    obtain ⟨p1, p2⟩ := (isDoorB_iff ok).mp hb1
    obtain ⟨q1, q2⟩ := (isInB_n (n := 9) (by decide)).mp hb2
    obtain ⟨q, D, e3⟩ := at_run Z e1 hH p2 hm
    obtain ⟨na, lv, sw, cn, hg, fl, fs, fc, d1, -⟩ := D
    obtain ⟨⟨x1, x2⟩, ⟨y1, y2⟩, hac, ⟨l1, l2, l3⟩, ⟨k1, k2⟩, ⟨t1, t2⟩, ⟨c1, c2, c3⟩, hwh, -⟩ := ok.2.2.2.2.2.1 _ p2
    generalize hd : (a 1).toNatClampNeg = d at p1 p2 e3 d1 x1 x2 y1 y2 hac l1 l2 l3 k1 k2 t1 t2 c1 c2 c3 hwh
    generalize hk : (a 2).toNatClampNeg = w at q1 q2
    have hd10 : d < 10 := by omega
    obtain ⟨fo, hfo⟩ := R.1.2.2.2.2.1
    have good : ∀ v : Int32, (M_X1_door n (a 1) (a 2)).1 (mkX n (mkM (n + 50) g ms) xs) = some (Sum.inr v, mkX n (mkM (n + 50) g ms) xs) → M_X10_door (a 1) (a 2) ms = some (v, uI m1 0 0) → OpOk n (mkM (n + 50) (mkX n g xs) ms) (LS_5 n (n + 50) (n + 83) a) := by
      intro v hc hT
      have h83 : (mkX n (mkM (n + 50) g ms) xs).1 (n + 83) = .inl (1, 1, .inr (.inl fo)) := by
        rw [mkX_at, xCell_else (by decide)]
        simp only [mkM, if_neg (show ¬ n + 83 = n + 50 by omega), if_neg (show ¬ (n + 50 < n + 83 ∧ n + 83 ≤ n + 50 + 32) by omega)]
        exact hfo
      have hcl : (M_X0_door n (a 1) (a 2) (n + 83)).1 (mkM (n + 50) (mkX n g xs) ms) = some (0, mkM (n + 50) (mkX n (va_up g.1 (n + 83) (.inl (1, 1, .inr (.inl (va_up fo 0 v.toInt64)))), g.2) xs) ms) := by
        rw [mk_comm, mk_comm]
        unfold M_X0_door
        rw [ev_call hc]
        show (Mo.bind (astL (n + 83) 0 v.toInt64) _).1 _ = _
        rw [ev_astL h83 (by decide), ← mk_write (by omega)]
        rfl
      have hout : ∀ m2 : MS, (mkM (n + 50) (mkX n (va_up g.1 (n + 83) (.inl (1, 1, .inr (.inl (va_up fo 0 v.toInt64)))), g.2) xs) m2).1 (n + 83) = .inl (1, 1, .inr (.inl (va_up fo 0 v.toInt64))) := by
        intro m2
        rw [mk_comm, mkX_at, xCell_else (by decide)]
        simp only [mkM, if_neg (show ¬ n + 83 = n + 50 by omega), if_neg (show ¬ (n + 50 < n + 83 ∧ n + 83 ≤ n + 50 + 32) by omega)]
        simp [va_up]
      refine ⟨_, ⟨0, _, mkX n (va_up g.1 (n + 83) (.inl (1, 1, .inr (.inl (va_up fo 0 v.toInt64)))), g.2) xs, ms, v, uI m1 0 0, uI m1 0 0, hcl, rfl, hT, rfl, rfl, fun _ => ?_⟩, ⟨F, _, xs, _, rfl, ?_⟩, ?_, ?_⟩
      · unfold aldL Mo.rd
        simp only [hout]
        rfl
      · refine (RL.t0 0).g (fun q _ hq => ?_) ⟨va_up fo 0 v.toInt64, by show va_up g.1 (n + 83) _ (n + 83) = _; simp [va_up]⟩ (Nat.le_refl _)
        show va_up g.1 (n + 83) _ q = g.1 q
        simp [va_up, hq]
      · show g.2.1 ≤ g.2.1 + 9000; omega
      · show g.2.2 ≤ g.2.2 + 100000; omega
    have hcls : ∀ {X : Nat → Mo (Nat ⊕ Int32)} {v : Int32}, (X q).1 (mkX n (mkM (n + 50) g ms) xs) = some (Sum.inr v, mkX n (mkM (n + 50) g ms) xs) → (Mo.bind (M_X1_isDoor n (a 1)) (fun v1 => Mo.bind ((cond v1 (Mo.bind (M_X1_isIn (a 2) 0 8) (fun v22 => cond v22 (Mo.pure true) (Mo.pure false))) (Mo.pure false) : Mo (Bool))) (fun u2 => Mo.bind (M_X1_must u2) (fun w => Mo.cs w (fun b => Mo.pure (Sum.inl b)) (fun v3 => Mo.bind (M_X1_at n (a 1)) X))))).1 (mkX n (mkM (n + 50) g ms) xs) = some (Sum.inr v, mkX n (mkM (n + 50) g ms) xs) := by
      intro X v hX
      rw [ev_call hdr, hb1]
      simp only [cond_true, Mo.bind_assoc, Mo.pure_bind]
      rw [ev_call (isIn_run _ _ _ _), hb2]
      simp only [cond_true, Mo.pure_bind]
      rw [Mo.bind_of (a := (Sum.inr () : Nat ⊕ Unit)) (h1 := mkX n (mkM (n + 50) g ms) xs) rfl]
      show (Mo.bind (M_X1_at n (a 1)) X).1 _ = _
      rw [p1, ev_call e3, hX]
    have href : ∀ {X : TM Int32} {v : Int32} {m' : MS}, X (uI m1 0 0) = some (v, m') → TM.bind M_X10_lay (fun v1 => TM.bind (M_X10_isDoor (a 1)) (fun v2 => cond v2 (TM.bind (M_X10_isIn (a 2) 0 8) (fun v4 => cond v4 (TM.bind (sI 0 0) (fun _ => TM.bind X (fun u5 => TM.pure u5))) (TM.bind (M_X10_refuse) (fun v9 => TM.pure v9)))) (TM.bind (M_X10_refuse) (fun v3 => TM.pure v3)))) ms = some (v, m') := by
      intro X v m' hX
      rw [t_of hl, t_of (isDoor_runT hr ok _), hb1]
      simp only [cond_true]
      rw [t_of (isIn_runT _ _ _ _), hb2]
      simp only [cond_true]
      rw [te_sI, t_of hX]
      rfl
    have hr0 : (uI m1 0 0).2.2.1 14 = r := hr
    rcases (show w = 0 ∨ w = 1 ∨ w = 2 ∨ w = 3 ∨ w = 4 ∨ w = 5 ∨ w = 6 ∨ w = 7 ∨ w = 8 by omega) with rfl | rfl | rfl | rfl | rfl | rfl | rfl | rfl | rfl
    · exact good (r (110 + 10 * d)) (by unfold M_X1_door; rw [x_chk]; refine hcls ?_; rw [q1]; show (Mo.bind (gI [9] q 1) _).1 _ = _; rw [ev_I (Z _ _ d1) (by decide) rfl]; rfl) (by unfold M_X10_door; refine href ?_; rw [q1, p1]; show TM.bind (M_X10_of (nI d) 0) _ _ = _; rw [t_of (of_run hr0 hd10 (k := 0) (kv := 0) (by decide) rfl (i := 110 + 10 * d) (by omega))]; rfl)
    · exact good (r (111 + 10 * d)) (by unfold M_X1_door; rw [x_chk]; refine hcls ?_; rw [q1]; show (Mo.bind (gI [9] q 2) _).1 _ = _; rw [ev_I (Z _ _ d1) (by decide) rfl]; rfl) (by unfold M_X10_door; refine href ?_; rw [q1, p1]; show TM.bind (M_X10_of (nI d) 1) _ _ = _; rw [t_of (of_run hr0 hd10 (k := 1) (kv := 1) (by decide) rfl (i := 111 + 10 * d) (by omega))]; rfl)
    · exact good (r (112 + 10 * d)) (by unfold M_X1_door; rw [x_chk]; refine hcls ?_; rw [q1]; show (Mo.bind (gZ [9] q 4) _).1 _ = _; rw [ev_Z (v := r (112 + 10 * d) == 1) (Z _ _ d1) (by decide) rfl]; rcases hac with e | e <;> rw [e] <;> rfl) (by unfold M_X10_door; refine href ?_; rw [q1, p1]; show TM.bind (M_X10_of (nI d) 2) _ _ = _; rw [t_of (of_run hr0 hd10 (k := 2) (kv := 2) (by decide) rfl (i := 112 + 10 * d) (by omega))]; rfl)
    · exact good (r (113 + 10 * d)) (by unfold M_X1_door; rw [x_chk]; refine hcls ?_; rw [q1]; show (Mo.bind (gI [9] q 3) _).1 _ = _; rw [ev_I (Z _ _ d1) (by decide) rfl]; rfl) (by unfold M_X10_door; refine href ?_; rw [q1, p1]; show TM.bind (M_X10_of (nI d) 3) _ _ = _; rw [t_of (of_run hr0 hd10 (k := 3) (kv := 3) (by decide) rfl (i := 113 + 10 * d) (by omega))]; rfl)
    · exact good (r (114 + 10 * d)) (by unfold M_X1_door; rw [x_chk]; refine hcls ?_; rw [q1]; show (Mo.bind (gR [0] n 9) _).1 _ = _; rw [x_R9, x_w0R1, p1, x_A13 (gIn_nI hd10 (by decide)), nI_clamp (by omega), hhg d p2]; rfl) (by unfold M_X10_door; refine href ?_; rw [q1, p1]; show TM.bind (M_X10_of (nI d) 4) _ _ = _; rw [t_of (of_run hr0 hd10 (k := 4) (kv := 4) (by decide) rfl (i := 114 + 10 * d) (by omega))]; rfl)
    · exact good (r (330 + d)) (by unfold M_X1_door; rw [x_chk]; refine hcls ?_; rw [q1]; show (Mo.bind (gR [0] n 9) _).1 _ = _; rw [x_R9, x_w0R2, p1, x_A14 (gIn_nI hd10 (by decide)), nI_clamp (by omega), han d p2]; rfl) (by unfold M_X10_door; refine href ?_; rw [q1, p1]; show TM.bind (tA 14 704 (330 + nI d)) _ _ = _; rw [show (330 : Int32) + nI d = nI (330 + d) by rw [← nI_add]; rfl, te_A (gIn_nI (by omega) (by decide)), nI_clamp (by omega), hr0]; rfl)
    · exact good (r (115 + 10 * d)) (by unfold M_X1_door; rw [x_chk]; refine hcls ?_; rw [q1]; show (Mo.bind (gI [9] q 9) _).1 _ = _; rw [ev_I (Z _ _ d1) (by decide) rfl]; rfl) (by unfold M_X10_door; refine href ?_; rw [q1, p1]; show TM.bind (M_X10_of (nI d) 5) _ _ = _; rw [t_of (of_run hr0 hd10 (k := 5) (kv := 5) (by decide) rfl (i := 115 + 10 * d) (by omega))]; rfl)
    · exact good (r (116 + 10 * d)) (by unfold M_X1_door; rw [x_chk]; refine hcls ?_; rw [q1]; show (Mo.bind (gI [9] q 10) _).1 _ = _; rw [ev_I (Z _ _ d1) (by decide) rfl]; rfl) (by unfold M_X10_door; refine href ?_; rw [q1, p1]; show TM.bind (M_X10_of (nI d) 6) _ _ = _; rw [t_of (of_run hr0 hd10 (k := 6) (kv := 6) (by decide) rfl (i := 116 + 10 * d) (by omega))]; rfl)
    · exact good (r (117 + 10 * d)) (by unfold M_X1_door; rw [x_chk]; refine hcls ?_; rw [q1]; show (Mo.bind (gZ [9] q 11) _).1 _ = _; rw [ev_Z (v := r (117 + 10 * d) == 1) (Z _ _ d1) (by decide) rfl]; rcases hwh with e | e <;> rw [e] <;> rfl) (by unfold M_X10_door; refine href ?_; rw [q1, p1]; show TM.bind (M_X10_of (nI d) 7) _ _ = _; rw [t_of (of_run hr0 hd10 (k := 7) (kv := 7) (by decide) rfl (i := 117 + 10 * d) (by omega))]; rfl)
