set_option maxRecDepth 100000
theorem leafP_bound {ac : Bool} {al ou hx hy : Int} {len a : Nat} (hl : len ≤ 3) (h1 : al = 1 ∨ al = -1) (h2 : ou = 1 ∨ ou = -1) (x1 : 0 ≤ hx ∧ hx ≤ 12) (y1 : 0 ≤ hy ∧ hy ≤ 12) : ∀ p ∈ leafP ac al ou hx hy len a, -5 ≤ p.1 ∧ p.1 ≤ 20 ∧ -5 ≤ p.2 ∧ p.2 ≤ 20 := by
  intro p hp
  unfold leafP at hp
  by_cases ha : a = 1
  · rw [if_pos ha] at hp
    obtain ⟨i, hi, hp⟩ := List.mem_flatMap.mp hp
    obtain ⟨j, hj, hp⟩ := List.mem_flatMap.mp hp
    have hi := List.mem_range.mp hi
    have hj := List.mem_range.mp hj
    have hj3 : j < 3 := by split at hj <;> omega
    split at hp
    · have hp := List.mem_singleton.mp hp
      subst hp
      rcases h1 with rfl | rfl <;> rcases h2 with rfl | rfl <;> cases ac <;> simp <;> omega
    · cases hp
  · rw [if_neg ha] at hp
    obtain ⟨i, hi, hp⟩ := List.mem_flatMap.mp hp
    have hi := List.mem_range.mp hi
    have hp := List.mem_singleton.mp hp
    subst hp
    by_cases h0 : a = 0
    · rw [if_pos h0]
      rcases h1 with rfl | rfl <;> cases ac <;> simp <;> omega
    · rw [if_neg h0]
      rcases h2 with rfl | rfl <;> cases ac <;> simp <;> omega
theorem leafL_bound {r : Row} (ok : okRow r) {d h a : Nat} (hd : d < rN r 2) : ∀ p ∈ leafL r d h a, -5 ≤ p.1 ∧ p.1 ≤ 20 ∧ -5 ≤ p.2 ∧ p.2 ≤ 20 := by
  obtain ⟨⟨x1, x2⟩, ⟨y1, y2⟩, hac, ⟨l1, l2, l3⟩, -⟩ := ok.2.2.2.2.2.1 d hd
  have c10 := ok.1.2
  have r10 := ok.2.1.2
  have ex : (r (110 + 10 * d)).toInt = (rN r (110 + 10 * d) : Int) := by conv => lhs; rw [x1]
                                                                         exact nI_toInt (by omega)
  have ey : (r (111 + 10 * d)).toInt = (rN r (111 + 10 * d) : Int) := by conv => lhs; rw [y1]
                                                                         exact nI_toInt (by omega)
  unfold leafL
  rw [leafZ_P, ex, ey]
  refine leafP_bound l3 (by split <;> simp) (by split <;> simp) ?_ ?_
  · split
    · omega
    · split <;> omega
  · split
    · split <;> omega
    · omega
theorem inH_isCell {r : Row} (ok : okRow r) {x y : Int} (hx : -5 ≤ x ∧ x ≤ 20) (hy : -5 ≤ y ∧ y ≤ 20) : isCellB r (iZ x) (iZ y) = inH r (x, y) := by
  have ex : (iZ x).toInt = x := iZ_toInt (by omega) (by omega)
  have ey : (iZ y).toInt = y := iZ_toInt (by omega) (by omega)
  have nx : (iZ x).toNatClampNeg = x.toNat := by show (iZ x).toInt.toNat = _; rw [ex]
  have ny : (iZ y).toNatClampNeg = y.toNat := by show (iZ y).toInt.toNat = _; rw [ey]
  have key : ∀ z : Int, -5 ≤ z → z ≤ 20 → (iZ z = nI z.toNat ↔ 0 ≤ z) := by
    intro z h1 h2
    rw [iZ_nat]
    constructor
    · intro e
      have := congrArg Int32.toInt e
      rw [iZ_toInt (by omega) (by omega), iZ_toInt (by omega) (by omega)] at this
      omega
    · intro e
      congr 1
      omega
  rw [Bool.eq_iff_iff, isCellB_iff ok, nx, ny, key x hx.1 hx.2, key y hy.1 hy.2]
  unfold inH
  simp only [Bool.and_eq_true, decide_eq_true_eq]
  omega
theorem lfM_get {m : MS} {L : List (Int × Int)} (hL : L.length ≤ 4) : (lfM m L).1 26 = nI L.length ∧ (∀ j, j ≠ 26 → (lfM m L).1 j = m.1 j) ∧ (∀ j, j ≠ 24 → j ≠ 25 → (lfM m L).2.2.1 j = m.2.2.1 j) ∧ (lfM m L).2.2.2 = m.2.2.2 ∧ ∀ i (hi : i < L.length), (lfM m L).2.2.1 24 i = iZ L[i].1 ∧ (lfM m L).2.2.1 25 i = iZ L[i].2 := by
  obtain ⟨a1, a2, a3, a4, a5, a6, a7⟩ := putM_fold L (uI m 26 0) 0 rfl (by omega)
  rw [Nat.zero_add] at a1
  refine ⟨a1, fun j hj => (a2 j hj).trans (by simp [uI, va_up, hj]), a5, a4, fun i hi => ?_⟩
  have := a7 i hi
  rw [Nat.zero_add] at this
  exact this
/-- whether a leaf that is laid is free -/
theorem canLoop_run {m : MS} {r : Row} (hr : m.2.2.1 14 = r) (ok : okRow r) {L : List (Int × Int)} (hL : L.length ≤ 4) (hb : ∀ p ∈ L, -5 ≤ p.1 ∧ p.1 ≤ 20 ∧ -5 ≤ p.2 ∧ p.2 ≤ 20) : ∀ k i, i + k = L.length → TM.loop (S := Int32) (fun s2 => TM.bind (tI 26) (fun v5 => if v5 ≤ s2 then TM.pure (Sum.inr true) else TM.bind (tA 24 4 s2) (fun v6 => TM.bind (tA 25 4 s2) (fun v7 => TM.bind (M_X10_isCell v6 v7) (fun v8 => cond v8 (TM.bind (tA 25 4 s2) (fun v9 => TM.bind (tA 24 4 s2) (fun v10 => TM.bind (tA 14 704 ((10 + (10 * v9)) + v10)) (fun v11 => if v11 = 0 then TM.lv (s2 + 1) (fun v12 => TM.pure (Sum.inl v12)) else TM.pure (Sum.inr false))))) (TM.pure (Sum.inr false))))))) (nI i) (lfM m L) = some (freeL r (L.drop i), lfM m L) := by
  obtain ⟨a1, a2, a3, a4, a5⟩ := lfM_get (m := m) hL
  have hr' : (lfM m L).2.2.1 14 = r := by rw [a3 14 (by decide) (by decide)]; exact hr
  have c10 := ok.1.2
  have r10 := ok.2.1.2
  intro k
  induction k with
  | zero =>
    intro i hi
    have : i = L.length := by omega
    subst this
    refine TM.loop_inr ?_
    rw [te_I, a1, if_pos (nI_le (Nat.le_refl _) (by omega)), List.drop_length]
    rfl
  | succ k ih =>
    intro i hi
    have hlt : i < L.length := by omega
    obtain ⟨g1, g2⟩ := a5 i hlt
    have hp := hb L[i] (List.getElem_mem hlt)
    have hgi : gIn (nI i) 4 = true := gIn_nI (by omega) (by decide)
    have hcl : (nI i).toNatClampNeg = i := nI_clamp (by omega)
    have hdrop : L.drop i = L[i] :: L.drop (i + 1) := List.drop_eq_getElem_cons hlt
    generalize hq : L[i] = q at g1 g2 hp hdrop
    obtain ⟨x, y⟩ := q
    have hfr : freeL r (L.drop i) = ((inH r (x, y) && (r (10 + cellN (x, y)) == 0)) && freeL r (L.drop (i + 1))) := by
      rw [hdrop]; unfold freeL; rw [List.all_cons]
    have hcell : M_X10_isCell (iZ x) (iZ y) (lfM m L) = some (inH r (x, y), lfM m L) := by
      rw [isCell_runT hr' ok, inH_isCell ok ⟨hp.1, hp.2.1⟩ ⟨hp.2.2.1, hp.2.2.2⟩]
    cases hin : inH r (x, y) with
    | false =>
      rw [TM.loop_inr (x := false) (m1 := lfM m L) (by
        rw [te_I, a1, if_neg (nI_ge hlt (by omega)), te_A hgi, te_A hgi, hcl, g1, g2, t_of hcell, hin]; rfl)]
      rw [hfr, hin]; rfl
    | true =>
      have hin' := hin
      unfold inH at hin'
      simp only [Bool.and_eq_true, decide_eq_true_eq] at hin'
      have hidx : 10 + 10 * iZ y + iZ x = nI (10 + cellN (x, y)) := by
        rw [show (10 : Int32) = iZ 10 from rfl, iZ_mul, iZ_add, iZ_add, iZ_nat]
        congr 1
        unfold cellN
        dsimp only
        omega
      have hlt2 : 10 + cellN (x, y) < 704 := by unfold cellN; dsimp only; omega
      by_cases h0 : r (10 + cellN (x, y)) = 0
      · rw [TM.loop_inl (s' := nI (i + 1)) (m1 := lfM m L) (by
          rw [te_I, a1, if_neg (nI_ge hlt (by omega)), te_A hgi, te_A hgi, hcl, g1, g2, t_of hcell, hin]
          simp only [cond_true]
          rw [te_A hgi, te_A hgi, hcl, g1, g2, hidx, te_A (gIn_nI hlt2 (by decide)), nI_clamp (by omega), hr', if_pos h0, te_lv, nI_succ]; rfl)]
        rw [ih (i + 1) (by omega), hfr, hin, h0]
        simp
      · rw [TM.loop_inr (x := false) (m1 := lfM m L) (by
          rw [te_I, a1, if_neg (nI_ge hlt (by omega)), te_A hgi, te_A hgi, hcl, g1, g2, t_of hcell, hin]
          simp only [cond_true]
          rw [te_A hgi, te_A hgi, hcl, g1, g2, hidx, te_A (gIn_nI hlt2 (by decide)), nI_clamp (by omega), hr', if_neg h0]; rfl)]
        rw [hfr, hin]
        simp [h0]
/-- behind a look at an angle -/
def cnM (m : MS) (r : Row) (d h a : Nat) : MS := if a = 0 then m else lfM m (leafL r d h a)
theorem canBe_run {m : MS} {r : Row} (hr : m.2.2.1 14 = r) (ok : okRow r) {d h a : Nat} (hd : d < rN r 2) (hh : h < 4) (ha : a < 3) : M_X10_canBe (nI d) (nI h) (nI a) m = some (canB r d h a, cnM m r d h a) := by
  unfold M_X10_canBe canB cnM
  by_cases h0 : a = 0
  · subst h0
    rfl
  · rw [if_neg (show ¬ nI a = 0 from fun z => h0 ((nI_inj (b := 0) (by omega) (by decide)).mp z)), t_of (layLeaf_run hr ok hd hh ha), if_neg h0]
    have l3 := (ok.2.2.2.2.2.1 d hd).2.2.2.1.2.2
    have e := canLoop_run hr ok (leafL_len r d h a l3) (leafL_bound (h := h) (a := a) ok hd) (leafL r d h a).length 0 (by omega)
    rw [List.drop_zero] at e
    refine Eq.trans e ?_
    simp [h0]
theorem cnM_same (m : MS) (r : Row) (d h a : Nat) (hl : (leafL r d h a).length ≤ 4) : (∀ j, j ≠ 26 → (cnM m r d h a).1 j = m.1 j) ∧ (∀ j, j ≠ 24 → j ≠ 25 → (cnM m r d h a).2.2.1 j = m.2.2.1 j) ∧ (cnM m r d h a).2.2.2 = m.2.2.2 := by
  unfold cnM
  split
  · exact ⟨fun _ _ => rfl, fun _ _ _ => rfl, rfl⟩
  · obtain ⟨-, a2, a3, a4, -⟩ := lfM_get (m := m) hl
    exact ⟨a2, a3, a4⟩
theorem RelC.cn {n : Nat} {F : Fz} {g : gH} {xs : XS} {ms : MS} (R : RelC n F g xs ms) (r : Row) (d h a : Nat) (hl : (leafL r d h a).length ≤ 4) : RelC n F g xs (cnM ms r d h a) := by
  obtain ⟨a1, a2, a3⟩ := cnM_same ms r d h a hl
  exact R.ms (fun k hk => a1 k (fun e => by subst e; exact absurd hk (by decide))) (fun k hk => a2 k (fun e => by subst e; exact absurd hk (by decide)) (fun e => by subst e; exact absurd hk (by decide))) (fun k _ => by rw [a3])
theorem okLen {r : Row} (ok : okRow r) {d : Nat} (hd : d < rN r 2) (h a : Nat) : (leafL r d h a).length ≤ 4 := leafL_len r d h a (ok.2.2.2.2.2.1 d hd).2.2.2.1.2.2
def ftM (m : MS) (r : Row) (d h : Nat) : MS := if canB r d h 1 && !(r (117 + 10 * d) == 0) then cnM (cnM m r d h 1) r d h 2 else cnM m r d h 1
theorem isFit_run {m : MS} {r : Row} (hr : m.2.2.1 14 = r) (ok : okRow r) {d h : Nat} (hd : d < rN r 2) (hh : h < 4) : M_X10_isFit (nI d) (nI h) m = some (isFitR r d h, ftM m r d h) := by
  have hm := ok.2.2.1.2
  have hr1 : (cnM m r d h 1).2.2.1 14 = r := by rw [(cnM_same m r d h 1 (okLen ok hd h 1)).2.1 14 (by decide) (by decide)]; exact hr
  unfold M_X10_isFit isFitR ftM
  rw [show (1 : Int32) = nI 1 from rfl, t_of (canBe_run hr ok hd hh (a := 1) (by decide))]
  cases hc : canB r d h 1 with
  | false => rfl
  | true =>
    simp only [cond_true]
    by_cases h7 : r (117 + 10 * d) = 0
    · rw [t_of (a := true) (m1 := cnM m r d h 1) (by rw [t_of (of_run hr1 (show d < 10 by omega) (k := 7) (kv := 7) (by decide) rfl (i := 117 + 10 * d) (by omega)), if_pos h7]; rfl)]
      simp [h7]; rfl
    · rw [t_of (a := canB r d h 2) (m1 := cnM (cnM m r d h 1) r d h 2) (by
        rw [t_of (of_run hr1 (show d < 10 by omega) (k := 7) (kv := 7) (by decide) rfl (i := 117 + 10 * d) (by omega)), if_neg h7, show (2 : Int32) = nI 2 from rfl, t_of (canBe_run hr1 ok hd hh (a := 2) (by decide))]
        cases canB r d h 2 <;> rfl)]
      have e7 : (r (117 + 10 * d) == 0) = false := beq_eq_false_iff_ne.mpr h7
      rw [e7]; rfl
theorem RelC.ft {n : Nat} {F : Fz} {g : gH} {xs : XS} {ms : MS} (R : RelC n F g xs ms) {r : Row} (ok : okRow r) {d : Nat} (hd : d < rN r 2) (h : Nat) : RelC n F g xs (ftM ms r d h) := by
  unfold ftM
  split
  · exact (R.cn r d h 1 (okLen ok hd h 1)).cn r d h 2 (okLen ok hd h 2)
  · exact R.cn r d h 1 (okLen ok hd h 1)
theorem isHang_run (p : Int32) (h : gH) : (M_X1_isHanging p).1 h = some (isInB p 0 3, h) := by
  unfold M_X1_isHanging
  rw [ev_call (isIn_run _ _ _ _)]
  rfl
theorem isHang_iff {p : Int32} : isInB p 0 3 = true ↔ p = nI p.toNatClampNeg ∧ p.toNatClampNeg < 4 := isInB_n (n := 4) (by decide)
section
variable {n : Nat} {F : Fz} {g0 : gH} {xs : XS} {ho : Nat} {r : Row} {nm : Nat → Int64}
theorem isDoor_run (Z : Frz F (mkX n g0 xs)) (e1 : xs.2.1 200 = some ho) (H : IsHouse F ho r nm) (p : Int32) : (M_X1_isDoor n p).1 (mkX n g0 xs) = some (isDoorB r p, mkX n g0 xs) := by
  unfold M_X1_isDoor isDoorB
  rw [x_chk, x_R9, x_w0R0 e1, hs_many Z H, ev_call (isIn_run _ _ _ _)]
  rfl
theorem at_run (Z : Frz F (mkX n g0 xs)) (e1 : xs.2.1 200 = some ho) (H : IsHouse F ho r nm) {d : Nat} (hd : d < rN r 2) (hm : rN r 2 ≤ 10) : ∃ q, IsDoor F q r nm d ∧ (M_X1_at n (nI d)).1 (mkX n g0 xs) = some (q, mkX n g0 xs) := by
  obtain ⟨q, e2, e3⟩ := hs_door Z H hd hm
  refine ⟨q, e2, ?_⟩
  unfold M_X1_at
  rw [x_chk, x_R9, x_w0R0 e1, e3]
  rfl
end
section
variable {F : Fz} {h : gH} {q : Nat} {r : Row} {nm : Nat → Int64} {d : Nat}
theorem hasB_canS (r : Row) (d h : Nat) (a : Nat) (ha : a < 3) : hasB (canS r d h) a = canB r d h a := by
  have e : ∀ (x y : Bool) (a : Nat), a < 3 → hasB (1 + (if x then 2 else 0) + (if y then 4 else 0)) a = (a == 0 || (a == 1 && x) || (a == 2 && y)) := by decide
  unfold canS
  rw [e _ _ a ha]
  rcases (show a = 0 ∨ a = 1 ∨ a = 2 by omega) with rfl | rfl | rfl
  · simp [canB]
  · simp
  · simp
theorem has_run (s : Int32) (k : Nat) (h : gH) : (M_X1_has s (nI k)).1 h = some (hasB s k, h) := by
  unfold M_X1_has hasB
  by_cases c : (s >>> (nI k &&& 31)) &&& 1 = 1
  · simp [c]; rfl
  · have e : (((s >>> (nI k &&& 31)) &&& 1) == 1) = false := beq_eq_false_iff_ne.mpr c
    rw [e, if_neg c]; rfl
theorem dcan_run (Z : Frz F h) (D : IsDoor F q r nm d) {k a : Nat} (hk : k < 4) (ha : a < 3) : (M_X11_can q (nI k) (nI a)).1 h = some (canB r d k a, h) := by
  obtain ⟨na, lv, sw, cn, hg, fl, fs, fc, d1, d2, d3, d4, d5, d6, d7, d8⟩ := D
  unfold M_X11_can
  rw [ev_chk (Z _ _ d1) (by decide), ev_R (Z _ _ d1) (by decide) rfl, ev_ald (Z _ _ d5) (gIn_nI hk (by decide)), nI_clamp (by omega), d8 k hk, ev_call (has_run _ _ _), hasB_canS r d k a ha]
  rfl
theorem dfit_run (Z : Frz F h) (D : IsDoor F q r nm d) (hw : r (117 + 10 * d) = 0 ∨ r (117 + 10 * d) = 1) {k : Nat} (hk : k < 4) : (M_X11_isFit q (nI k)).1 h = some (isFitR r d k, h) := by
  have D0 := D
  obtain ⟨na, lv, sw, cn, hg, fl, fs, fc, d1, -⟩ := D0
  unfold M_X11_isFit isFitR
  rw [ev_chk (Z _ _ d1) (by decide), show (1 : Int32) = nI 1 from rfl, ev_call (dcan_run Z D hk (a := 1) (by decide))]
  cases canB r d k 1 with
  | false => rfl
  | true =>
    simp only [cond_true, Mo.bind_assoc, Mo.pure_bind]
    rw [ev_Z (v := r (117 + 10 * d) == 1) (Z _ _ d1) (by decide) rfl]
    rcases hw with e | e
    · rw [e]; rfl
    · rw [e]
      show (Mo.bind (cond true _ _) _).1 h = _
      simp only [cond_true, Mo.bind_assoc, Mo.pure_bind]
      rw [show (2 : Int32) = nI 2 from rfl, ev_call (dcan_run Z D hk (a := 2) (by decide))]
      cases canB r d k 2 <;> rfl
end
theorem op_7 {n : Nat} {h : gH} (R : Rel n h) (a : Nat → Int32) : OpOk n h (LS_7 n (n + 50) (n + 83) a) := by
  obtain ⟨F, g, xs, ms, rfl, R⟩ := R
  have R := R.t0 0
  obtain ⟨ho, dy, e1, e2, hH, ok, -⟩ := R.2.2.2.2.2.1
  have hl := lay_run R.2.2.2.2.1
  have hr := (lyd_row R.2.2.2.2.1).1
  have Z : Frz F (mkX n (mkM (n + 50) g ms) xs) := by
    intro q c hq
    have := R.1.frozen (ms := ms) hq
    rw [mk_comm] at this
    exact this
  have RL := R.lyd
  generalize hrw : eRow (uI ms 0 0) = r at hr ok hH
  generalize hml : lyd (uI ms 0 0) = m1 at hr RL hl
  have hm := ok.2.2.1.2
  cases hb : isDoorB r (a 1) with
  | false =>
    refine OpOk.of (F' := F) (v := -1) (g' := g) (xs' := xs) ?_ (ms' := m1) ?_ RL (by omega) (by omega)
    · unfold M_X1_can; rw [x_chk, ev_call (isDoor_run Z e1 hH _), hb]; rfl
    · unfold M_X10_can; rw [te_sI, t_of hl, t_of (isDoor_runT hr ok _), hb]; rfl
  | true =>
    obtain ⟨p1, p2⟩ := (isDoorB_iff ok).mp hb
    cases hc : isInB (a 2) 0 3 with
    | false =>
      refine OpOk.of (F' := F) (v := -1) (g' := g) (xs' := xs) ?_ (ms' := m1) ?_ RL (by omega) (by omega)
      · unfold M_X1_can; rw [x_chk, ev_call (isDoor_run Z e1 hH _), hb]
        simp only [cond_true, Mo.bind_assoc, Mo.pure_bind]
        rw [ev_call (isHang_run _ _), hc]; rfl
      · unfold M_X10_can; rw [te_sI, t_of hl, t_of (isDoor_runT hr ok _), hb]
        simp only [cond_true]
        rw [t_of (isIn_runT _ _ _ _), hc]; rfl
    | true =>
      obtain ⟨q1, q2⟩ := isHang_iff.mp hc
      obtain ⟨q, D, e3⟩ := at_run Z e1 hH p2 hm
      have D0 := D
      obtain ⟨na, lv, sw, cn, hg, fl, fs, fc, d1, d2, d3, d4, d5, d6, d7, d8⟩ := D0
      generalize hd : (a 1).toNatClampNeg = d at p1 p2 e3 D d1 d2 d6 d7 d8
      generalize hk : (a 2).toNatClampNeg = k at q1 q2
      have R1 := RL.cn r d k 1 (okLen ok p2 k 1)
      have hr1 : (cnM m1 r d k 1).2.2.1 14 = r := by rw [(cnM_same m1 r d k 1 (okLen ok p2 k 1)).2.1 14 (by decide) (by decide)]; exact hr
      refine OpOk.of (F' := F) (v := canS r d k) (g' := g) (xs' := xs) ?_ (ms' := cnM (cnM m1 r d k 1) r d k 2) ?_ (R1.cn r d k 2 (okLen ok p2 k 2)) (by omega) (by omega)
      · unfold M_X1_can; rw [x_chk, ev_call (isDoor_run Z e1 hH _), hb]
        simp only [cond_true, Mo.bind_assoc, Mo.pure_bind]
        rw [ev_call (isHang_run _ _), hc]
        simp only [cond_true, Mo.bind_assoc, Mo.pure_bind]
        rw [p1, ev_call e3, ev_R (Z _ _ d1) (by decide) rfl, q1, ev_ald (Z _ _ d5) (gIn_nI q2 (by decide)), nI_clamp (by omega), d8 k q2]; rfl
      · unfold M_X10_can; rw [te_sI, t_of hl, t_of (isDoor_runT hr ok _), hb]
        simp only [cond_true]
        rw [t_of (isIn_runT _ _ _ _), hc]
        simp only [cond_true]
        rw [p1, q1, show (1 : Int32) = nI 1 from rfl, t_of (canBe_run hr ok p2 q2 (a := 1) (by decide))]
        rw [t_of (a := if canB r d k 1 then 2 else 0) (m1 := cnM m1 r d k 1) (by cases canB r d k 1 <;> rfl)]
        rw [show (2 : Int32) = nI 2 from rfl, t_of (canBe_run hr1 ok p2 q2 (a := 2) (by decide))]
        rw [t_of (a := if canB r d k 2 then 4 else 0) (m1 := cnM (cnM m1 r d k 1) r d k 2) (by cases canB r d k 2 <;> rfl)]
        rfl
theorem op_8 {n : Nat} {h : gH} (R : Rel n h) (a : Nat → Int32) : OpOk n h (LS_8 n (n + 50) (n + 83) a) := by
  obtain ⟨F, g, xs, ms, rfl, R⟩ := R
  have R := R.t0 0
  obtain ⟨ho, dy, e1, e2, hH, ok, -⟩ := R.2.2.2.2.2.1
  have hl := lay_run R.2.2.2.2.1
  have hr := (lyd_row R.2.2.2.2.1).1
  have Z : Frz F (mkX n (mkM (n + 50) g ms) xs) := by
    intro q c hq
    have := R.1.frozen (ms := ms) hq
    rw [mk_comm] at this
    exact this
  have RL := R.lyd
  generalize hrw : eRow (uI ms 0 0) = r at hr ok hH
  generalize hml : lyd (uI ms 0 0) = m1 at hr RL hl
  have hm := ok.2.2.1.2
  cases hb : isDoorB r (a 1) with
  | false =>
    refine OpOk.of (F' := F) (v := -1) (g' := g) (xs' := xs) ?_ (ms' := m1) ?_ RL (by omega) (by omega)
    · unfold M_X1_fit; rw [x_chk, ev_call (isDoor_run Z e1 hH _), hb]; rfl
    · unfold M_X10_fit; rw [te_sI, t_of hl, t_of (isDoor_runT hr ok _), hb]; rfl
  | true =>
    obtain ⟨p1, p2⟩ := (isDoorB_iff ok).mp hb
    cases hc : isInB (a 2) 0 3 with
    | false =>
      refine OpOk.of (F' := F) (v := -1) (g' := g) (xs' := xs) ?_ (ms' := m1) ?_ RL (by omega) (by omega)
      · unfold M_X1_fit; rw [x_chk, ev_call (isDoor_run Z e1 hH _), hb]
        simp only [cond_true, Mo.bind_assoc, Mo.pure_bind]
        rw [ev_call (isHang_run _ _), hc]; rfl
      · unfold M_X10_fit; rw [te_sI, t_of hl, t_of (isDoor_runT hr ok _), hb]
        simp only [cond_true]
        rw [t_of (isIn_runT _ _ _ _), hc]; rfl
    | true =>
      obtain ⟨q1, q2⟩ := isHang_iff.mp hc
      obtain ⟨q, D, e3⟩ := at_run Z e1 hH p2 hm
      generalize hd : (a 1).toNatClampNeg = d at p1 p2 e3 D
      generalize hk : (a 2).toNatClampNeg = k at q1 q2
      refine OpOk.of (F' := F) (v := if isFitR r d k then 1 else 0) (g' := g) (xs' := xs) ?_ (ms' := ftM m1 r d k) ?_ (RL.ft ok p2 k) (by omega) (by omega)
      · unfold M_X1_fit; rw [x_chk, ev_call (isDoor_run Z e1 hH _), hb]
        simp only [cond_true, Mo.bind_assoc, Mo.pure_bind]
        rw [ev_call (isHang_run _ _), hc]
        simp only [cond_true, Mo.bind_assoc, Mo.pure_bind]
        rw [p1, ev_call e3, q1, ev_call (dfit_run Z D (ok.2.2.2.2.2.1 d p2).2.2.2.2.2.2.2.1 q2)]
        cases isFitR r d k <;> rfl
      · unfold M_X10_fit; rw [te_sI, t_of hl, t_of (isDoor_runT hr ok _), hb]
        simp only [cond_true]
        rw [t_of (isIn_runT _ _ _ _), hc]
        simp only [cond_true]
        rw [p1, q1, t_of (isFit_run hr ok p2 q2)]
        cases isFitR r d k <;> rfl
