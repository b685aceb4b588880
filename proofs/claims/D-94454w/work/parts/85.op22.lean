set_option maxRecDepth 100000
theorem va_ne {α : Type} {f : Nat → α} {k j : Nat} {v : α} (h : j ≠ k) : va_up f k v j = f j := by simp [va_up, h]
theorem hasT_run (s : Int32) (k : Nat) (m : MS) : M_X10_has s (nI k) m = some (hasB s k, m) := by
  unfold M_X10_has hasB
  by_cases c : (s >>> (nI k &&& 31)) &&& 1 = 1
  · simp [c]; rfl
  · have e : (((s >>> (nI k &&& 31)) &&& 1) == 1) = false := beq_eq_false_iff_ne.mpr c
    rw [e, if_neg c]; rfl
theorem ftM_same (m : MS) {r : Row} (ok : okRow r) {d : Nat} (hd : d < rN r 2) (h : Nat) : (∀ j, j ≠ 26 → (ftM m r d h).1 j = m.1 j) ∧ (∀ j, j ≠ 24 → j ≠ 25 → (ftM m r d h).2.2.1 j = m.2.2.1 j) ∧ (ftM m r d h).2.2.2 = m.2.2.2 := by
  obtain ⟨a1, a2, a3⟩ := cnM_same m r d h 1 (okLen ok hd h 1)
  obtain ⟨b1, b2, b3⟩ := cnM_same (cnM m r d h 1) r d h 2 (okLen ok hd h 2)
  unfold ftM
  split
  · exact ⟨fun j hj => (b1 j hj).trans (a1 j hj), fun j h1 h2 => (b2 j h1 h2).trans (a2 j h1 h2), b3.trans a3⟩
  · exact ⟨a1, a2, a3⟩
theorem okWalk_up {r r' : Row} {an : Nat → Int32} {pl : Int32} (u : upH r r') (ok : okRow r) {d : Nat} (h0 : an d = 0) (hs : ∀ e, e ≠ d → r' (114 + 10 * e) = r (114 + 10 * e)) (w : okWalk r an pl) : okWalk r' an pl := by
  obtain ⟨w1, w2, w3⟩ := w
  have n2 : rN r' 2 = rN r 2 := by unfold rN; rw [u 2 (fun e _ => by omega)]
  have n0 : rN r' 0 = rN r 0 := by unfold rN; rw [u 0 (fun e _ => by omega)]
  have n1 : rN r' 1 = rN r 1 := by unfold rN; rw [u 1 (fun e _ => by omega)]
  have z0 : (an d).toNatClampNeg = 0 := by rw [h0]; rfl
  have mem : ∀ e c, c ∈ leafC r' e (rN r' (114 + 10 * e)) (an e).toNatClampNeg ↔ c ∈ leafC r e (rN r (114 + 10 * e)) (an e).toNatClampNeg := by
    intro e c
    rw [leafC_up u]
    by_cases he : e = d
    · subst he
      rw [z0, leafC0_iff r e (rN r' (114 + 10 * e)), leafC0_iff r e (rN r (114 + 10 * e))]
    · unfold rN
      rw [hs e he]
  refine ⟨fun e he => ?_, fun e f he hf hne c hc => ?_, ?_⟩
  · rw [n2] at he
    obtain ⟨p1, p2, p3⟩ := w1 e he
    refine ⟨p1, p2, ?_⟩
    rw [canB_up u ok.1.2 ok.2.1.2]
    by_cases hed : e = d
    · subst hed
      rw [z0]
      rfl
    · unfold rN
      rw [hs e hed]
      exact p3
  · rw [n2] at he hf
    rw [mem f]
    exact w2 e f he hf hne c ((mem e c).mp hc)
  · rcases w3 with e | ⟨x, y, h1, h2, h3, h4⟩
    · exact Or.inl e
    · have := ok.1.2; have := ok.2.1.2
      exact Or.inr ⟨x, y, by rw [n0]; exact h1, by rw [n1]; exact h2, h3, by rw [u (10 + (10 * y + x)) (fun e _ => by omega), u (210 + (10 * y + x)) (fun e _ => by omega)]; exact h4⟩
theorem op_22 {n : Nat} {h : gH} (R : Rel n h) (a : Nat → Int32) : OpOk n h (LS_22 n (n + 50) (n + 83) a) := by
  obtain ⟨F, g, xs, ms, rfl, R⟩ := R
  have R := R.t0 0
  have RA := R.2.2.2.2.2.1
  obtain ⟨ho, dy, e1, e2, hH, ok, hhg, han, hpl, hwk, hday, hsent⟩ := RA
  have hl := lay_run R.2.2.2.2.1
  have hr := (lyd_row R.2.2.2.2.1).1
  have hbg := (lyd_row R.2.2.2.2.1).2
  have hls := (lyd_same (ms := uI ms 0 0))
  have Z : Frz F (mkX n (mkM (n + 50) g ms) xs) := by
    intro q c hq
    have := R.1.frozen (ms := ms) hq
    rw [mk_comm] at this
    exact this
  have RL := R.lyd
  have hmin := R.2.2.2.1
  have hnm : (lyd (uI ms 0 0)).2.2.2 18 = (uI ms 0 0).2.2.2 18 := by rw [hls.2.2.1]
  rw [← hnm] at hH
  generalize hrw : eRow (uI ms 0 0) = r at hr ok hH hhg han hpl hwk hday hsent
  generalize hml : lyd (uI ms 0 0) = m1 at hr RL hl hbg hH
  have hm := ok.2.2.1.2
  have no : ∀ m', RelC n F g xs m' → (M_X1_rehang n (a 1) (a 2)).1 (mkX n (mkM (n + 50) g ms) xs) = some (false, mkX n (mkM (n + 50) g ms) xs) → M_X10_rehang (a 1) (a 2) ms = some (false, m') → OpOk n (mkM (n + 50) (mkX n g xs) ms) (LS_22 n (n + 50) (n + 83) a) :=
    fun m' R' h1 h2 => OpOk.of (F' := F) (g' := g) (xs' := xs) h1 h2 R' (by omega) (by omega)
  cases hb : isDoorB r (a 1) with
  | false =>
    refine no m1 RL ?_ ?_
    · unfold M_X1_rehang; rw [x_chk, ev_call (isDoor_run Z e1 hH _), hb]; rfl
    · unfold M_X10_rehang; rw [te_sI, t_of hl, t_of (isDoor_runT hr ok _), hb]; rfl
  | true =>
    obtain ⟨p1, p2⟩ := (isDoorB_iff ok).mp hb
    cases hc : isInB (a 2) 0 3 with
    | false =>
      refine no m1 RL ?_ ?_
      · unfold M_X1_rehang; rw [x_chk, ev_call (isDoor_run Z e1 hH _), hb]
        simp only [cond_true]
        rw [ev_call (isHang_run _ _), hc]; rfl
      · unfold M_X10_rehang; rw [te_sI, t_of hl, t_of (isDoor_runT hr ok _), hb]
        simp only [cond_true]
        rw [t_of (isIn_runT _ _ _ _), hc]; rfl
    | true =>
      obtain ⟨q1, q2⟩ := isHang_iff.mp hc
      generalize hdd : (a 1).toNatClampNeg = d at p1 p2
      generalize hkk : (a 2).toNatClampNeg = k at q1 q2
      have hd10 : d < 10 := by omega
      have hcl : (M_X1_rehang n (a 1) (a 2)).1 (mkX n (mkM (n + 50) g ms) xs) = (cond (hasB (r (115 + 10 * d)) k && isFitR r d k) (if xs.2.2.1 201 d = 0 then Mo.bind (gR [0] n 9) (fun v10 => Mo.bind (gR [2] v10 1) (fun v11 => Mo.bind (astI 0 v11 (nI d) (nI k)) (fun _ => Mo.pure true))) else Mo.pure false) (Mo.pure false)).1 (mkX n (mkM (n + 50) g ms) xs) := by
        unfold M_X1_rehang; rw [x_chk, ev_call (isDoor_run Z e1 hH _), hb]
        simp only [cond_true]
        rw [ev_call (isHang_run _ _), hc]
        simp only [cond_true]
        rw [p1, q1, x_R9, x_w0R0 e1, ev_call (domain_run Z hH ok p2), ev_call (has_run _ _ _), dom_has r d k q2]
        cases hasB (r (115 + 10 * d)) k && isFitR r d k with
        | false => rfl
        | true =>
          simp only [cond_true]
          rw [x_R9, x_w0R2, x_A14 (gIn_nI hd10 (by decide)), nI_clamp (by omega)]
      have hrf : M_X10_rehang (a 1) (a 2) ms = (cond (hasB (r (115 + 10 * d)) k) (if r (330 + d) = 0 then TM.bind (M_X10_isFit (nI d) (nI k)) (fun v7 => cond v7 (TM.bind (sA 14 704 ((110 + (10 * nI d)) + 4) (nI k)) (fun _ => TM.pure true)) (TM.pure false)) else TM.pure false) (TM.pure false)) m1 := by
        unfold M_X10_rehang; rw [te_sI, t_of hl, t_of (isDoor_runT hr ok _), hb]
        simp only [cond_true]
        rw [t_of (isIn_runT _ _ _ _), hc]
        simp only [cond_true]
        rw [p1, q1, t_of (of_run hr hd10 (k := 5) (kv := 5) (by decide) rfl (i := 115 + 10 * d) (by omega)), t_of (hasT_run _ _ _)]
        cases hasB (r (115 + 10 * d)) k with
        | false => rfl
        | true =>
          simp only [cond_true]
          rw [show (330 : Int32) + nI d = nI (330 + d) by rw [← nI_add]; rfl, te_A (gIn_nI (by omega) (by decide)), nI_clamp (by omega), hr]
      have hang := han d p2
      cases ht : hasB (r (115 + 10 * d)) k with
      | false =>
        refine no m1 RL ?_ ?_
        · rw [hcl, ht]; rfl
        · rw [hrf, ht]; rfl
      | true =>
        by_cases h0 : r (330 + d) = 0
        · cases hf : isFitR r d k with
          | false =>
            refine no (ftM m1 r d k) (RL.ft ok p2 k) ?_ ?_
            · rw [hcl, ht, hf]; rfl
            · rw [hrf, ht]
              simp only [cond_true]
              rw [if_pos h0, t_of (isFit_run hr ok p2 q2), hf]; rfl
          | true =>
            obtain ⟨f1, f2, f3⟩ := ftM_same m1 ok p2 k
            have RF := RL.ft ok p2 k
            have hr2 : (ftM m1 r d k).2.2.1 14 = r := by rw [f2 14 (by decide) (by decide)]; exact hr
            refine OpOk.of (F' := F) (v := true) (g' := g) (xs' := zA xs 200 d (nI k)) ?_ (ms' := uA (ftM m1 r d k) 14 (114 + 10 * d) (nI k)) ?_ ?_ (by omega) (by omega)
            · rw [hcl, ht, hf]
              show (if xs.2.2.1 201 d = 0 then _ else _ : Mo Bool).1 _ = _
              rw [if_pos (by rw [hang]; exact h0), x_R9, x_w0R1, x_sA13 (gIn_nI hd10 (by decide)), nI_clamp (by omega)]
              rfl
            · rw [hrf, ht]
              simp only [cond_true]
              rw [if_pos h0, t_of (isFit_run hr ok p2 q2), hf]
              simp only [cond_true]
              rw [show (110 : Int32) + 10 * nI d + 4 = nI (114 + 10 * d) by rw [show 114 + 10 * d = 110 + 10 * d + 4 by omega, ← nI_add, ← nI_add, ← nI_mul]; rfl, te_sA (gIn_nI (by omega) (by decide)), nI_clamp (by omega)]
              rfl
            · have u : upH r (va_up r (114 + 10 * d) (nI k)) := fun i hi => by simp [va_up, hi d hd10]
              have hat : va_up r (114 + 10 * d) (nI k) (114 + 10 * d) = nI k := by simp [va_up]
              have hoff : ∀ e, e ≠ d → va_up r (114 + 10 * d) (nI k) (114 + 10 * e) = r (114 + 10 * e) := fun e he => va_ne (by omega)
              have her : eRow (uA (ftM m1 r d k) 14 (114 + 10 * d) (nI k)) = va_up r (114 + 10 * d) (nI k) := by
                rw [eRow_begun (by show (ftM m1 r d k).1 22 = 1; rw [f1 22 (by decide)]; exact hbg)]
                show va_up (ftM m1 r d k).2.2.1 14 (va_up ((ftM m1 r d k).2.2.1 14) (114 + 10 * d) (nI k)) 14 = _
                rw [hr2]
                simp [va_up]
              have n2 : rN (va_up r (114 + 10 * d) (nI k)) 2 = rN r 2 := by unfold rN; rw [u 2 (fun e _ => by omega)]
              have c1 : ∀ j ∈ [0, 22, 23, 27, 32, 37], (zA xs 200 d (nI k)).2.2.1 j = xs.2.2.1 j := fun j hj => va_ne (fun e => by rw [e] at hj; exact absurd hj (by decide))
              have c2 : ∀ j ∈ [1, 17, 21, 35, 36, 41, 48, 54], (uA (ftM m1 r d k) 14 (114 + 10 * d) (nI k)).2.2.1 j = (ftM m1 r d k).2.2.1 j := fun j hj => va_ne (fun e => by rw [e] at hj; exact absurd hj (by decide))
              have c3 : (uA (ftM m1 r d k) 14 (114 + 10 * d) (nI k)).1 22 = 1 := by show (ftM m1 r d k).1 22 = 1; rw [f1 22 (by decide)]; exact hbg
              refine RF.now (fun _ _ => rfl) c1 (fun _ _ => rfl) rfl (fun _ _ => rfl) (Or.inr c3) c2 rfl RF.2.2.2.1 ⟨ho, dy, e1, e2, ?_⟩
              rw [her]
              have hnm2 : (uA (ftM m1 r d k) 14 (114 + 10 * d) (nI k)).2.2.2 18 = m1.2.2.2 18 := by show (ftM m1 r d k).2.2.2 18 = _; rw [f3]
              rw [hnm2]
              refine ⟨house_up u ok.1.2 ok.2.1.2 ok.2.2.2.1.2 hH, okRow_up u (fun e he => ?_) ok, fun e he => ?_, fun e he => ?_, ?_, okWalk_up u ok (d := d) (by show xs.2.2.1 201 d = 0; rw [hang]; exact h0) hoff hwk, day_up u hday, sent_up u hsent⟩
              · by_cases hed : e = d
                · subst hed
                  unfold rN
                  rw [hat, nI_clamp (by omega)]
                  exact ⟨rfl, q2⟩
                · unfold rN
                  rw [hoff e hed]
                  exact (ok.2.2.2.2.2.1 e he).2.2.2.2.1
              · rw [n2] at he
                show va_up xs.2.2.1 200 (va_up (xs.2.2.1 200) d (nI k)) 200 e = _
                by_cases hed : e = d
                · subst hed
                  rw [hat]
                  simp [va_up]
                · rw [hoff e hed, ← hhg e he]
                  simp [va_up, hed]
              · rw [n2] at he
                rw [u (330 + e) (fun f _ => by omega)]
                exact han e he
              · rw [u 340 (fun f _ => by omega)]
                exact hpl
        · refine no m1 RL ?_ ?_
          · rw [hcl, ht]
            cases isFitR r d k with
            | false => rfl
            | true =>
              show (if xs.2.2.1 201 d = 0 then _ else _ : Mo Bool).1 _ = _
              rw [if_neg (by rw [hang]; exact h0)]; rfl
          · rw [hrf, ht]
            simp only [cond_true]
            rw [if_neg h0]; rfl
