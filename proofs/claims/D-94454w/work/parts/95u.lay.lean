set_option maxRecDepth 100000
section
variable {r : Row} {an : Nat → Nat} {p : Int32}
/-- only the scratch of leaves has changed -/
def scr (m m' : MS) : Prop := sameB [26] [24, 25] [] m m'
theorem scr_lf {m : MS} {L : List (Int × Int)} (hL : L.length ≤ 4) : scr m (lfM m L) := by
  obtain ⟨-, a2, a3, a4, -⟩ := lfM_get (m := m) hL
  exact ⟨fun k hk => a2 k (nin_ne hk (by decide)), fun k hk => a3 k (nin_ne hk (by decide)) (nin_ne hk (by decide)), fun k _ => by rw [a4]⟩
theorem scr_cn {m : MS} {r : Row} {d h a : Nat} (hl : (leafL r d h a).length ≤ 4) : scr m (cnM m r d h a) := by
  unfold cnM
  split
  · exact sameB.rf
  · exact scr_lf hl
theorem WM.scr {m m' : MS} (W : WM r an p m) (h : scr m m') : WM r an p m' := by
  obtain ⟨w1, w2, w3, w4⟩ := W
  exact ⟨by rw [h.2.1 14 (by decide)]; exact w1, by rw [h.2.1 43 (by decide)]; exact w2, by rw [h.1 45 (by decide)]; exact w3, by unfold LO; rw [h.2.1 44 (by decide)]; exact w4⟩
theorem lfB_own {c d : Nat} (O : OW r an p) (hd : d < rN r 2) (h : c ∈ lfD r an d) : lfB r an d c = false := by
  unfold lfB
  cases hb : anyN (fun e => decide (e ≠ d) && decide (c ∈ lfD r an e)) (rN r 2) with
  | false => rfl
  | true =>
    obtain ⟨k, k1, k2⟩ := (anyN_iff _ _).mp hb
    simp only [Bool.and_eq_true, decide_eq_true_eq] at k2
    exact absurd k2.2 (O.2.1 d k hd k1 (fun z => k2.1 z.symm) c h)
theorem hind_run (ok : okRow r) {m : MS} (W : WM r an p m) (O : OW r an p) {d to : Nat} (hd : d < rN r 2) (hto : to ≤ 2) : Ok (M_X10_hinders (nI d) (nI to) m) (fun v m' => v = barI r an p d to ∧ scr m m') := by
  have hm := ok.2.2.1.2
  obtain ⟨h1, h2⟩ := hgN_ok ok hd
  have W0 := W
  obtain ⟨w1, w2, w3, w4⟩ := W0
  unfold M_X10_hinders barI
  simp (disch := omega) only [tq_I, tq_L, tq_sI, tq_sL, tq_lv, tq_pure, lvT, TM.bind_assoc, TM.pure_bind, TM.bind_pure, te_An, te_Bn, te_sAn, te_sBn, t_doors, t_hasn, t_isIn, t_of0, t_of1, t_of2, t_of3, t_of4, t_of5, t_of6, t_of7, lit, nI_add, nI_mul, nI_subn, le_t, le_f, lt_t, lt_f, eq_t, eq_f, eqm_f, ltz_f, cond_true, cond_false, if_true, if_false, w1, h1, t_of (canBe_run w1 ok hd h2 (a := to) (by omega))]
  have hl := okLen ok hd (hgN r d) to
  cases hc : canB r d (hgN r d) to with
  | false =>
    simp (disch := omega) only [tq_I, tq_L, tq_sI, tq_sL, tq_lv, tq_pure, lvT, TM.bind_assoc, TM.pure_bind, TM.bind_pure, te_An, te_Bn, te_sAn, te_sBn, t_doors, t_hasn, t_isIn, t_of0, t_of1, t_of2, t_of3, t_of4, t_of5, t_of6, t_of7, lit, nI_add, nI_mul, nI_subn, le_t, le_f, lt_t, lt_f, eq_t, eq_f, eqm_f, ltz_f, cond_true, cond_false, if_true, if_false]
    exact Ok.pT ⟨rfl, scr_cn hl⟩
  | true =>
    have S1 := scr_cn (m := m) (r := r) (d := d) (h := hgN r d) (a := to) hl
    have W1 := W.scr S1
    generalize cnM m r d (hgN r d) to = m1 at S1 W1
    have S2 := scr_lf (m := m1) hl
    have W2 := W1.scr S2
    simp (disch := omega) only [tq_I, tq_L, tq_sI, tq_sL, tq_lv, tq_pure, lvT, TM.bind_assoc, TM.pure_bind, TM.bind_pure, te_An, te_Bn, te_sAn, te_sBn, t_doors, t_hasn, t_isIn, t_of0, t_of1, t_of2, t_of3, t_of4, t_of5, t_of6, t_of7, lit, nI_add, nI_mul, nI_subn, le_t, le_f, lt_t, lt_f, eq_t, eq_f, eqm_f, ltz_f, cond_true, cond_false, if_true, if_false, W1.1, h1, t_of (layLeaf_run W1.1 ok hd h2 (a := to) (by omega))]
    obtain ⟨g1, g2, g3, g4, g5⟩ := lfM_get (m := m1) hl
    have hin := leaf_in ok hd hc
    have hmap := leafC_map ok hd hc
    unfold hitB
    rw [hmap]
    generalize leafL r d (hgN r d) to = L at *
    generalize lfM m1 L = m2 at *
    obtain ⟨v1, v2, v3, v4⟩ := W2
    refine (Ok.forTs (S := Int32) (E := Int32) (Q := fun v m' => v = (if (L.map cellN).any (fun c => decide (nI c = p) || lfB r an d c) = true then nI 7 else nI 0) ∧ m' = m2) (fun i => nI i) L.length (fun i m' => m' = m2 ∧ ∀ q ∈ L.take i, (decide (nI (cellN q) = p) || lfB r an d (cellN q)) = false) (i := 0) rfl (by omega) ⟨rfl, fun q hq => by simp at hq⟩ (fun i m' hi hI => ?_) (fun m' hI => ?_)).imp (fun v m' q => ⟨q.1, by rw [q.2]; exact S1.tr S2⟩)
    · obtain ⟨rfl, hA⟩ := hI
      obtain ⟨x1, x2⟩ := g5 i hi
      have hp := hin L[i] (List.getElem_mem hi)
      obtain ⟨i1, i2, i3, i4, i5, i6⟩ := inH_cell ok hp
      have ec : nI 10 * iZ L[i].2 + iZ L[i].1 = nI (cellN L[i]) := by rw [i2, i3, i4, nI_mul, nI_add]
      have yes : (decide (nI (cellN L[i]) = p) || lfB r an d (cellN L[i])) = true → (L.map cellN).any (fun c => decide (nI c = p) || lfB r an d c) = true := fun z => List.any_eq_true.mpr ⟨cellN L[i], List.mem_map.mpr ⟨L[i], List.getElem_mem hi, rfl⟩, z⟩
      have nx : (decide (nI (cellN L[i]) = p) || lfB r an d (cellN L[i])) = false → ∀ q ∈ L.take (i + 1), (decide (nI (cellN q) = p) || lfB r an d (cellN q)) = false := fun z q hq => by
        rw [List.take_succ_eq_append_getElem hi, List.mem_append, List.mem_singleton] at hq
        rcases hq with hq | hq
        · exact hA q hq
        · rw [hq]; exact z
      generalize cellN L[i] = c at *
      rcases v4 c i1 with ⟨y1, y2⟩ | ⟨e, y1, y2, y3⟩
      · have nb : lfB r an d c = false := by
          unfold lfB
          cases hb : anyN (fun e => decide (e ≠ d) && decide (c ∈ lfD r an e)) (rN r 2) with
          | false => rfl
          | true =>
            obtain ⟨k, k1, k2⟩ := (anyN_iff _ _).mp hb
            simp only [Bool.and_eq_true, decide_eq_true_eq] at k2
            exact absurd k2.2 (y2 k k1)
        by_cases z : nI c = p
        · simp (disch := omega) only [tq_I, tq_L, tq_sI, tq_sL, tq_lv, tq_pure, lvT, TM.bind_assoc, TM.pure_bind, TM.bind_pure, te_An, te_Bn, te_sAn, te_sBn, t_doors, t_hasn, t_isIn, t_of0, t_of1, t_of2, t_of3, t_of4, t_of5, t_of6, t_of7, lit, nI_add, nI_mul, nI_subn, le_t, le_f, lt_t, lt_f, eq_t, eq_f, eqm_f, ltz_f, cond_true, cond_false, if_true, if_false, g1, x1, x2, ec, y1, v3, if_pos z]
          exact Ok.pT ⟨by rw [if_pos (yes (by simp [z]))], rfl⟩
        · simp (disch := omega) only [tq_I, tq_L, tq_sI, tq_sL, tq_lv, tq_pure, lvT, TM.bind_assoc, TM.pure_bind, TM.bind_pure, te_An, te_Bn, te_sAn, te_sBn, t_doors, t_hasn, t_isIn, t_of0, t_of1, t_of2, t_of3, t_of4, t_of5, t_of6, t_of7, lit, nI_add, nI_mul, nI_subn, le_t, le_f, lt_t, lt_f, eq_t, eq_f, eqm_f, ltz_f, cond_true, cond_false, if_true, if_false, g1, x1, x2, ec, y1, v3, if_neg z]
          exact Ok.pT ⟨rfl, rfl, nx (by simp [z, nb])⟩
      · by_cases ed : e = d
        · subst ed
          have nb := lfB_own O y1 y3
          by_cases z : nI c = p
          · simp (disch := omega) only [tq_I, tq_L, tq_sI, tq_sL, tq_lv, tq_pure, lvT, TM.bind_assoc, TM.pure_bind, TM.bind_pure, te_An, te_Bn, te_sAn, te_sBn, t_doors, t_hasn, t_isIn, t_of0, t_of1, t_of2, t_of3, t_of4, t_of5, t_of6, t_of7, lit, nI_add, nI_mul, nI_subn, le_t, le_f, lt_t, lt_f, eq_t, eq_f, eqm_f, ltz_f, cond_true, cond_false, if_true, if_false, g1, x1, x2, ec, y2, v3, if_pos z]
            exact Ok.pT ⟨by rw [if_pos (yes (by simp [z]))], rfl⟩
          · simp (disch := omega) only [tq_I, tq_L, tq_sI, tq_sL, tq_lv, tq_pure, lvT, TM.bind_assoc, TM.pure_bind, TM.bind_pure, te_An, te_Bn, te_sAn, te_sBn, t_doors, t_hasn, t_isIn, t_of0, t_of1, t_of2, t_of3, t_of4, t_of5, t_of6, t_of7, lit, nI_add, nI_mul, nI_subn, le_t, le_f, lt_t, lt_f, eq_t, eq_f, eqm_f, ltz_f, cond_true, cond_false, if_true, if_false, g1, x1, x2, ec, y2, v3, if_neg z]
            exact Ok.pT ⟨rfl, rfl, nx (by simp [z, nb])⟩
        · have nb : lfB r an d c = true := anyN_hit (p := fun e => decide (e ≠ d) && decide (c ∈ lfD r an e)) y1 (by simp [ed, y3])
          simp (disch := omega) only [tq_I, tq_L, tq_sI, tq_sL, tq_lv, tq_pure, lvT, TM.bind_assoc, TM.pure_bind, TM.bind_pure, te_An, te_Bn, te_sAn, te_sBn, t_doors, t_hasn, t_isIn, t_of0, t_of1, t_of2, t_of3, t_of4, t_of5, t_of6, t_of7, lit, nI_add, nI_mul, nI_subn, le_t, le_f, lt_t, lt_f, eq_t, eq_f, eqm_f, ltz_f, cond_true, cond_false, if_true, if_false, g1, x1, x2, ec, y2, v3]
          exact Ok.pT ⟨by rw [if_pos (yes (by simp [nb]))], rfl⟩
    · obtain ⟨rfl, hA⟩ := hI
      simp (disch := omega) only [tq_I, tq_L, tq_sI, tq_sL, tq_lv, tq_pure, lvT, TM.bind_assoc, TM.pure_bind, TM.bind_pure, te_An, te_Bn, te_sAn, te_sBn, t_doors, t_hasn, t_isIn, t_of0, t_of1, t_of2, t_of3, t_of4, t_of5, t_of6, t_of7, lit, nI_add, nI_mul, nI_subn, le_t, le_f, lt_t, lt_f, eq_t, eq_f, eqm_f, ltz_f, cond_true, cond_false, if_true, if_false, g1]
      refine Ok.pT ⟨?_, rfl⟩
      rw [if_neg]
      intro z
      obtain ⟨c, h3, h4⟩ := List.any_eq_true.mp z
      obtain ⟨q, h5, rfl⟩ := List.mem_map.mp h3
      rw [List.take_length] at hA
      rw [hA q h5] at h4; cases h4
/-- all leaves are laid anew -/
theorem layLeaves_run (ok : okRow r) {m : MS} (hr : m.2.2.1 14 = r) (ha : ∀ d, d < rN r 2 → m.2.2.1 43 d = nI (an d)) (hc : ∀ d, d < rN r 2 → an d ≤ 2 ∧ canB r d (hgN r d) (an d) = true) : Ok (M_X10_layLeaves m) (fun _ m' => LO r an m' (rN r 2) ∧ sameB [26] [24, 25, 44] [] m m') := by
  have hm := ok.2.2.1.2
  unfold M_X10_layLeaves
  refine Ok.bT (P := fun _ m' => (∀ c, c < 100 → m'.2.2.1 44 c = nI 0) ∧ sameB [26] [24, 25, 44] [] m m') ?_ (fun _ m1 ⟨z1, B1⟩ => ?_)
  · refine Ok.forTs (S := Int32) (fun i => nI i) 100 (fun i m' => (∀ c, c < i → m'.2.2.1 44 c = nI 0) ∧ sameB [26] [24, 25, 44] [] m m') (i := 0) rfl (by omega) ⟨fun c hc => by omega, sameB.rf⟩ (fun i m1 hi hI => ?_) (fun m1 hI => ?_)
    · obtain ⟨z1, B1⟩ := hI
      simp (disch := omega) only [tq_I, tq_L, tq_sI, tq_sL, tq_lv, tq_pure, lvT, TM.bind_assoc, TM.pure_bind, TM.bind_pure, te_An, te_Bn, te_sAn, te_sBn, t_doors, t_hasn, t_isIn, t_of0, t_of1, t_of2, t_of3, t_of4, t_of5, t_of6, t_of7, lit, nI_add, nI_mul, nI_subn, le_t, le_f, lt_t, lt_f, eq_t, eq_f, eqm_f, ltz_f, cond_true, cond_false, if_true, if_false]
      refine Ok.pT ⟨rfl, fun c hc => ?_, B1.uA (by decide)⟩
      rw [uA_22, va_eq]
      by_cases z : c = i
      · rw [z, va_eq]
      · rw [va_ne z]; exact z1 c (by omega)
    · simp (disch := omega) only [tq_I, tq_L, tq_sI, tq_sL, tq_lv, tq_pure, lvT, TM.bind_assoc, TM.pure_bind, TM.bind_pure, te_An, te_Bn, te_sAn, te_sBn, t_doors, t_hasn, t_isIn, t_of0, t_of1, t_of2, t_of3, t_of4, t_of5, t_of6, t_of7, lit, nI_add, nI_mul, nI_subn, le_t, le_f, lt_t, lt_f, eq_t, eq_f, eqm_f, ltz_f, cond_true, cond_false, if_true, if_false]
      exact Ok.pT hI
  · refine Ok.bT (P := fun _ m' => LO r an m' (rN r 2) ∧ sameB [26] [24, 25, 44] [] m m') (Ok.forTs (S := Int32) (fun i => nI i) (rN r 2) (fun i m' => LO r an m' i ∧ sameB [26] [24, 25, 44] [] m m') (i := 0) rfl (by omega) ⟨fun c hc => Or.inl ⟨z1 c hc, fun d hd => by omega⟩, B1⟩ (fun d m2 hd hI => ?_) (fun m2 hI => ?_)) (fun _ _ q => Ok.pT q)
    · obtain ⟨L2, B2⟩ := hI
      have hr2 : m2.2.2.1 14 = r := (B2.2.1 14 (by decide)).trans hr
      have a2 : m2.2.2.1 43 d = nI (an d) := by rw [B2.2.1 43 (by decide)]; exact ha d hd
      obtain ⟨h1, h2⟩ := hgN_ok ok hd
      obtain ⟨c1, c2⟩ := hc d hd
      simp (disch := omega) only [tq_I, tq_L, tq_sI, tq_sL, tq_lv, tq_pure, lvT, TM.bind_assoc, TM.pure_bind, TM.bind_pure, te_An, te_Bn, te_sAn, te_sBn, t_doors, t_hasn, t_isIn, t_of0, t_of1, t_of2, t_of3, t_of4, t_of5, t_of6, t_of7, lit, nI_add, nI_mul, nI_subn, le_t, le_f, lt_t, lt_f, eq_t, eq_f, eqm_f, ltz_f, cond_true, cond_false, if_true, if_false, hr2, ok.2.2.1.1, h1, a2, t_of (layLeaf_run hr2 ok hd h2 (a := an d) (by omega))]
      have hl := okLen ok hd (hgN r d) (an d)
      obtain ⟨g1, g2, g3, g4, g5⟩ := lfM_get (m := m2) hl
      have S2 := scr_lf (m := m2) hl
      have hin := leaf_in ok hd c2
      have hmap := leafC_map ok hd c2
      have hlf : lfD r an d = (leafL r d (hgN r d) (an d)).map cellN := hmap
      generalize leafL r d (hgN r d) (an d) = L at *
      have B3 : sameB [26] [24, 25, 44] [] m (lfM m2 L) := B2.tr (S2.up (by decide) (by decide) (by decide))
      have L3 : LO r an (lfM m2 L) d := by unfold LO; rw [S2.2.1 44 (by decide)]; exact L2
      generalize lfM m2 L = m3 at *
      refine Ok.bT (P := fun _ m' => sameB [26] [24, 25, 44] [] m m' ∧ ∀ c, c < 100 → (c ∈ L.map cellN ∧ m'.2.2.1 44 c = nI (d + 1)) ∨ (c ∉ L.map cellN ∧ m'.2.2.1 44 c = m3.2.2.1 44 c)) ?_ (fun _ m4 ⟨B4, q4⟩ => ?_)
      · refine Ok.forTs (S := Int32) (fun i => nI i) L.length (fun i m' => sameB [] [44] [] m3 m' ∧ ∀ c, c < 100 → (c ∈ (L.take i).map cellN ∧ m'.2.2.1 44 c = nI (d + 1)) ∨ (c ∉ (L.take i).map cellN ∧ m'.2.2.1 44 c = m3.2.2.1 44 c)) (i := 0) rfl (by omega) ⟨sameB.rf, fun c hc => Or.inr ⟨by simp, rfl⟩⟩ (fun i m4 hi hI => ?_) (fun m4 hI => ?_)
        · obtain ⟨B4, q4⟩ := hI
          obtain ⟨x1, x2⟩ := g5 i hi
          have hp := hin L[i] (List.getElem_mem hi)
          obtain ⟨i1, i2, i3, i4, i5, i6⟩ := inH_cell ok hp
          have ec : nI 10 * iZ L[i].2 + iZ L[i].1 = nI (cellN L[i]) := by rw [i2, i3, i4, nI_mul, nI_add]
          have y1 : m4.1 26 = nI L.length := by rw [B4.1 26 (by decide)]; exact g1
          have y2 : m4.2.2.1 24 i = iZ L[i].1 := by rw [B4.2.1 24 (by decide)]; exact x1
          have y3 : m4.2.2.1 25 i = iZ L[i].2 := by rw [B4.2.1 25 (by decide)]; exact x2
          simp (disch := omega) only [tq_I, tq_L, tq_sI, tq_sL, tq_lv, tq_pure, lvT, TM.bind_assoc, TM.pure_bind, TM.bind_pure, te_An, te_Bn, te_sAn, te_sBn, t_doors, t_hasn, t_isIn, t_of0, t_of1, t_of2, t_of3, t_of4, t_of5, t_of6, t_of7, lit, nI_add, nI_mul, nI_subn, le_t, le_f, lt_t, lt_f, eq_t, eq_f, eqm_f, ltz_f, cond_true, cond_false, if_true, if_false, y1, y2, y3, ec]
          refine Ok.pT ⟨rfl, B4.uA (by decide), fun c hc => ?_⟩
          rw [List.take_succ_eq_append_getElem hi, List.map_append, uA_22, va_eq]
          by_cases z : c = cellN L[i]
          · rw [z, va_eq]; exact Or.inl ⟨by simp, rfl⟩
          · rw [va_ne z]
            rcases q4 c hc with ⟨k1, k2⟩ | ⟨k1, k2⟩
            · exact Or.inl ⟨List.mem_append.mpr (Or.inl k1), k2⟩
            · exact Or.inr ⟨fun y => by
                rcases List.mem_append.mp y with y | y
                · exact k1 y
                · simp at y; exact z y, k2⟩
        · obtain ⟨B4, q4⟩ := hI
          have y1 : m4.1 26 = nI L.length := by rw [B4.1 26 (by decide)]; exact g1
          simp (disch := omega) only [tq_I, tq_L, tq_sI, tq_sL, tq_lv, tq_pure, lvT, TM.bind_assoc, TM.pure_bind, TM.bind_pure, te_An, te_Bn, te_sAn, te_sBn, t_doors, t_hasn, t_isIn, t_of0, t_of1, t_of2, t_of3, t_of4, t_of5, t_of6, t_of7, lit, nI_add, nI_mul, nI_subn, le_t, le_f, lt_t, lt_f, eq_t, eq_f, eqm_f, ltz_f, cond_true, cond_false, if_true, if_false, y1]
          rw [List.take_length] at q4
          exact Ok.pT ⟨B3.tr (B4.up (by decide) (by decide) (by decide)), q4⟩
      · simp (disch := omega) only [tq_I, tq_L, tq_sI, tq_sL, tq_lv, tq_pure, lvT, TM.bind_assoc, TM.pure_bind, TM.bind_pure, te_An, te_Bn, te_sAn, te_sBn, t_doors, t_hasn, t_isIn, t_of0, t_of1, t_of2, t_of3, t_of4, t_of5, t_of6, t_of7, lit, nI_add, nI_mul, nI_subn, le_t, le_f, lt_t, lt_f, eq_t, eq_f, eqm_f, ltz_f, cond_true, cond_false, if_true, if_false]
        refine Ok.pT ⟨rfl, fun c hc => ?_, B4⟩
        rcases q4 c hc with ⟨k1, k2⟩ | ⟨k1, k2⟩
        · exact Or.inr ⟨d, by omega, k2, by rw [hlf]; exact k1⟩
        · rw [k2]
          rcases L3 c hc with ⟨l1, l2⟩ | ⟨e, l1, l2, l3⟩
          · refine Or.inl ⟨l1, fun e he => ?_⟩
            by_cases z : e = d
            · rw [z, hlf]; exact k1
            · exact l2 e (by omega)
          · exact Or.inr ⟨e, by omega, l2, l3⟩
    · obtain ⟨L2, B2⟩ := hI
      have hr2 : m2.2.2.1 14 = r := (B2.2.1 14 (by decide)).trans hr
      simp (disch := omega) only [tq_I, tq_L, tq_sI, tq_sL, tq_lv, tq_pure, lvT, TM.bind_assoc, TM.pure_bind, TM.bind_pure, te_An, te_Bn, te_sAn, te_sBn, t_doors, t_hasn, t_isIn, t_of0, t_of1, t_of2, t_of3, t_of4, t_of5, t_of6, t_of7, lit, nI_add, nI_mul, nI_subn, le_t, le_f, lt_t, lt_f, eq_t, eq_f, eqm_f, ltz_f, cond_true, cond_false, if_true, if_false, hr2, ok.2.2.1.1]
      exact Ok.pT ⟨L2, B2⟩
/-- one leaf has come to an angle -/
def upN (f : Nat → Nat) (d v : Nat) : Nat → Nat := fun e => if e = d then v else f e
theorem upN_eq {f : Nat → Nat} {d v : Nat} : upN f d v d = v := if_pos rfl
theorem upN_ne {f : Nat → Nat} {d v e : Nat} (h : e ≠ d) : upN f d v e = f e := if_neg h
theorem OW.turn (O : OW r an p) {d to : Nat} (hd : d < rN r 2) (hto : to ≤ 2) (hb : barI r an p d to = nI 0) : OW r (upN an d to) p := by
  obtain ⟨o1, o2, o3⟩ := O
  unfold barI at hb
  cases hc : canB r d (hgN r d) to with
  | false => rw [hc, if_neg (by simp)] at hb; exact absurd hb (by decide)
  | true =>
    rw [hc, if_pos rfl] at hb
    cases hh : hitB r an p d to with
    | true => rw [hh, if_pos rfl] at hb; exact absurd hb (by decide)
    | false =>
      have free : ∀ c ∈ leafC r d (hgN r d) to, ∀ e, e < rN r 2 → e ≠ d → c ∉ lfD r an e := fun c hc e he hed hx => by
        unfold hitB at hh
        have : (leafC r d (hgN r d) to).any (fun c => decide (nI c = p) || lfB r an d c) = true := List.any_eq_true.mpr ⟨c, hc, by rw [show lfB r an d c = true from anyN_hit (p := fun e => decide (e ≠ d) && decide (c ∈ lfD r an e)) he (by simp [hed, hx])]; simp⟩
        rw [hh] at this; cases this
      have lfd : lfD r (upN an d to) d = leafC r d (hgN r d) to := by unfold lfD; rw [upN_eq]
      have lfe : ∀ e, e ≠ d → lfD r (upN an d to) e = lfD r an e := fun e he => by unfold lfD; rw [upN_ne he]
      refine ⟨fun e he => ?_, fun e f he hf hne c hce hcf => ?_, o3⟩
      · by_cases z : e = d
        · rw [z, upN_eq]; exact ⟨hto, hc⟩
        · rw [upN_ne z]; exact o1 e he
      · by_cases z : e = d
        · rw [z, lfd] at hce
          have zf : f ≠ d := fun y => hne (z.trans y.symm)
          rw [lfe f zf] at hcf
          exact free c hce f hf zf hcf
        · rw [lfe e z] at hce
          by_cases y : f = d
          · rw [y, lfd] at hcf
            exact free c hcf e he z hce
          · rw [lfe f y] at hcf
            exact o2 e f he hf hne c hce hcf
theorem swing_run (ok : okRow r) {m : MS} (W : WM r an p m) {d to : Nat} (hd : d < rN r 2) (O : OW r (upN an d to) p) : Ok (M_X10_swing (nI d) (nI to) m) (fun _ m' => WM r (upN an d to) p m' ∧ sameB [26] [24, 25, 43, 44] [] m m') := by
  have hm := ok.2.2.1.2
  obtain ⟨w1, w2, w3, w4⟩ := W
  unfold M_X10_swing
  simp (disch := omega) only [tq_I, tq_L, tq_sI, tq_sL, tq_lv, tq_pure, lvT, TM.bind_assoc, TM.pure_bind, TM.bind_pure, te_An, te_Bn, te_sAn, te_sBn, t_doors, t_hasn, t_isIn, t_of0, t_of1, t_of2, t_of3, t_of4, t_of5, t_of6, t_of7, lit, nI_add, nI_mul, nI_subn, le_t, le_f, lt_t, lt_f, eq_t, eq_f, eqm_f, ltz_f, cond_true, cond_false, if_true, if_false]
  have ha : ∀ e, e < rN r 2 → (uA m 43 d (nI to)).2.2.1 43 e = nI (upN an d to e) := fun e he => by
    rw [uA_22, va_eq]
    by_cases z : e = d
    · rw [z, va_eq, upN_eq]
    · rw [va_ne z, upN_ne z]; exact w2 e he
  refine Ok.bT (layLeaves_run ok (m := uA m 43 d (nI to)) w1 ha O.1) (fun _ m' ⟨q1, q2⟩ => Ok.pT ⟨⟨?_, ?_, ?_, q1⟩, (sameB.rf.uA (by decide)).tr (q2.up (by decide) (by decide) (by decide))⟩)
  · rw [q2.2.1 14 (by decide)]; exact w1
  · rw [q2.2.1 43 (by decide)]; exact ha
  · rw [q2.1 45 (by decide)]; exact w3
end
