set_option maxRecDepth 100000
/-- rows that differ in angles and place alone -/
def upW (r r' : Row) : Prop := ∀ i, i < 330 ∨ 341 ≤ i → r' i = r i
section
variable {r r' : Row}
theorem upW.n (u : upW r r') {i : Nat} (h : i < 330 ∨ 341 ≤ i) : rN r' i = rN r i := by unfold rN; rw [u i h]
theorem leafL_w (u : upW r r') {d : Nat} (hd : d < 10) (h a : Nat) : leafL r' d h a = leafL r d h a := by
  unfold leafL rN
  rw [u (110 + 10 * d) (by omega), u (111 + 10 * d) (by omega), u (112 + 10 * d) (by omega), u (113 + 10 * d) (by omega)]
theorem inH_w (u : upW r r') (p : Int × Int) : inH r' p = inH r p := by
  unfold inH
  rw [u.n (i := 0) (by omega), u.n (i := 1) (by omega)]
theorem canB_w (u : upW r r') (c10 : rN r 0 ≤ 10) (r10 : rN r 1 ≤ 10) {d : Nat} (hd : d < 10) (h a : Nat) : canB r' d h a = canB r d h a := by
  unfold canB freeL
  rw [leafL_w u hd]
  congr 1
  congr 1
  funext p
  rw [inH_w u]
  cases hi : inH r p with
  | false => rfl
  | true =>
    unfold inH at hi
    simp only [Bool.and_eq_true, decide_eq_true_eq] at hi
    rw [u (10 + cellN p) (by unfold cellN; omega)]
theorem leafC_w (u : upW r r') {d : Nat} (hd : d < 10) (h a : Nat) : leafC r' d h a = leafC r d h a := by unfold leafC; rw [leafL_w u hd]
theorem sweptC_w (u : upW r r') (c10 : rN r 0 ≤ 10) (r10 : rN r 1 ≤ 10) {d : Nat} (hd : d < 10) (h : Nat) : sweptC r' d h = sweptC r d h := by
  unfold sweptC
  rw [canB_w u c10 r10 hd, canB_w u c10 r10 hd, leafC_w u hd, leafC_w u hd]
theorem biteS_w (u : upW r r') (c10 : rN r 0 ≤ 10) (r10 : rN r 1 ≤ 10) {d e : Nat} (hd : d < 10) (he : e < 10) (h : Nat) : biteS r' d h e = biteS r d h e := by
  have : ∀ g, biteR r' d h e g = biteR r d h e g := fun g => by unfold biteR; rw [sweptC_w u c10 r10 hd, sweptC_w u c10 r10 he]
  unfold biteS
  simp only [this]
theorem canS_w (u : upW r r') (c10 : rN r 0 ≤ 10) (r10 : rN r 1 ≤ 10) {d : Nat} (hd : d < 10) (h : Nat) : canS r' d h = canS r d h := by
  unfold canS
  rw [canB_w u c10 r10 hd, canB_w u c10 r10 hd]
theorem door_w {F : Fz} {a : Nat} {nm : Nat → Int64} {d : Nat} (u : upW r r') (c10 : rN r 0 ≤ 10) (r10 : rN r 1 ≤ 10) (hd : d < 10) (D : IsDoor F a r nm d) : IsDoor F a r' nm d := by
  obtain ⟨na, lv, sw, cn, hg, fl, fs, fc, d1, d2, d3, d4, d5, d6, d7, d8⟩ := D
  refine ⟨na, lv, sw, cn, hg, fl, fs, fc, ?_, d2, d3, d4, d5, fun h k hh hk => ?_, fun h hh => ?_, fun h hh => ?_⟩
  · rw [u (110 + 10 * d) (by omega), u (111 + 10 * d) (by omega), u (112 + 10 * d) (by omega), u (113 + 10 * d) (by omega), u (115 + 10 * d) (by omega), u (116 + 10 * d) (by omega), u (117 + 10 * d) (by omega)]
    exact d1
  · obtain ⟨c, e1, e2⟩ := d6 h k hh hk
    exact ⟨c, e1, by rw [leafC_w u hd, leafL_w u hd]; exact e2⟩
  · obtain ⟨c, b, e1, e2⟩ := d7 h hh
    exact ⟨c, b, e1, by rw [sweptC_w u c10 r10 hd]; exact e2⟩
  · rw [canS_w u c10 r10 hd]; exact d8 h hh
theorem house_w {F : Fz} {a : Nat} {nm : Nat → Int64} (u : upW r r') (ok : okRow r) (H : IsHouse F a r nm) : IsHouse F a r' nm := by
  have c10 := ok.1.2
  have r10 := ok.2.1.2
  have m10 := ok.2.2.1.2
  have d6 := ok.2.2.2.1.2
  obtain ⟨ce, dr, ds, bt, fc, fd, fb, fo, h1, h2, h3, h4, h5, h6, h7, h8, h9⟩ := H
  have n0 := u.n (i := 0) (by omega)
  have n1 := u.n (i := 1) (by omega)
  have n2 := u.n (i := 2) (by omega)
  have n3 := u.n (i := 3) (by omega)
  refine ⟨ce, dr, ds, bt, fc, fd, fb, fo, ?_, h2, h3, h4, h5, fun x y hx hy => ?_, fun k hk => ?_, fun d hd => ?_, fun d h e hd hh he => ?_⟩
  · rw [u 0 (by omega), u 1 (by omega), u 2 (by omega), u 3 (by omega), u 4 (by omega)]
    exact h1
  · rw [n0] at hx; rw [n1] at hy
    rw [u (210 + (10 * y + x)) (by omega), u (10 + (10 * y + x)) (by omega)]
    exact h6 x y hx hy
  · rw [n3] at hk
    rw [u (310 + k) (by omega)]
    exact h7 k hk
  · rw [n2] at hd
    obtain ⟨q, e1, e2⟩ := h8 d hd
    exact ⟨q, e1, door_w u c10 r10 (by omega) e2⟩
  · rw [n2] at hd he
    rw [biteS_w u c10 r10 (by omega) (by omega)]
    exact h9 d h e hd hh he
theorem day_w {F : Fz} {a : Nat} (u : upW r r') (D : IsDay F a r) : IsDay F a r' := by
  obtain ⟨q, f, d1, d2, d3, d4, d5⟩ := D
  have n2 := u.n (i := 2) (by omega)
  have n341 := u.n (i := 341) (by omega)
  refine ⟨q, f, by rw [u 341 (by omega)]; exact d1, d2, by rw [n341, u 341 (by omega)]; exact d3, by rw [n341]; exact d4, fun i hi => ?_⟩
  rw [n341] at hi
  rw [n2, u (342 + 2 * i) (by omega), u (343 + 2 * i) (by omega)]
  exact d5 i hi
theorem cond_w {F : Fz} (u : upW r r') : ∀ (n a k : Nat), IsCond F r n a k → IsCond F r' n a k
  | 0, _, _, h => h
  | n + 1, a, k, h => by
    have n2 := u.n (i := 2) (by omega)
    have e4 : r' (464 + 4 * k) = r (464 + 4 * k) := u _ (by omega)
    have e5 : r' (465 + 4 * k) = r (465 + 4 * k) := u _ (by omega)
    have e6 : r' (466 + 4 * k) = r (466 + 4 * k) := u _ (by omega)
    have e7 : r' (467 + 4 * k) = r (467 + 4 * k) := u _ (by omega)
    have n5 : rN r' (465 + 4 * k) = rN r (465 + 4 * k) := by unfold rN; rw [e5]
    have n6 : rN r' (466 + 4 * k) = rN r (466 + 4 * k) := by unfold rN; rw [e6]
    unfold IsCond at h ⊢
    rw [e4, e5, e6, e7, n5, n6, n2]
    rcases h with ⟨h1, b, h2, h3, h4⟩ | ⟨h1, b, c, h2, h3, h4, h5, h6⟩ | ⟨h1, b, c, h2, h3, h4, h5, h6⟩ | h | h | h | h | h
    · exact Or.inl ⟨h1, b, h2, h3, cond_w u n _ _ h4⟩
    · exact Or.inr (Or.inl ⟨h1, b, c, h2, h3, h4, cond_w u n _ _ h5, cond_w u n _ _ h6⟩)
    · exact Or.inr (Or.inr (Or.inl ⟨h1, b, c, h2, h3, h4, cond_w u n _ _ h5, cond_w u n _ _ h6⟩))
    · exact Or.inr (Or.inr (Or.inr (Or.inl h)))
    · exact Or.inr (Or.inr (Or.inr (Or.inr (Or.inl h))))
    · exact Or.inr (Or.inr (Or.inr (Or.inr (Or.inr (Or.inl h)))))
    · exact Or.inr (Or.inr (Or.inr (Or.inr (Or.inr (Or.inr (Or.inl h))))))
    · exact Or.inr (Or.inr (Or.inr (Or.inr (Or.inr (Or.inr (Or.inr h))))))
theorem sent_w {F : Fz} {s : Option Nat} (u : upW r r') (S : IsSent F s r) : IsSent F s r' := by
  have e2 : r' 462 = r 462 := u _ (by omega)
  have e3 : r' 463 = r 463 := u _ (by omega)
  have n3 := u.n (i := 463) (by omega)
  rcases S with ⟨h1, h2⟩ | ⟨a, h1, h2, h3, h4, h5⟩
  · exact Or.inl ⟨h1, by rw [e2]; exact h2⟩
  · exact Or.inr ⟨a, h1, by rw [e2]; exact h2, by rw [n3, e3]; exact h3, by rw [n3]; exact h4, by rw [n3]; exact cond_w u _ _ _ h5⟩
theorem okRow_w (u : upW r r') (ok : okRow r) : okRow r' := by
  have q : ∀ i, (i < 330 ∨ 341 ≤ i) → r' i = r i ∧ rN r' i = rN r i := fun i hi => ⟨u i hi, u.n hi⟩
  obtain ⟨o1, o2, o3, o4, o5, o6, o7, o8⟩ := ok
  obtain ⟨a0, b0⟩ := q 0 (by omega)
  obtain ⟨a1, b1⟩ := q 1 (by omega)
  obtain ⟨a2, b2⟩ := q 2 (by omega)
  obtain ⟨a3, b3⟩ := q 3 (by omega)
  have a4 := (q 4 (by omega)).1
  have := o1.2
  have := o2.2
  have := o3.2
  refine ⟨by rw [a0, b0]; exact o1, by rw [a1, b1]; exact o2, by rw [a2, b2]; exact o3, by rw [a3, b3]; exact o4, ?_, fun d hd => ?_, fun x y hx hy => ?_, fun k hk => ?_⟩
  · rcases o5 with e | ⟨x, y, h1, h2, h3, h4⟩
    · exact Or.inl (by rw [a4]; exact e)
    · exact Or.inr ⟨x, y, by rw [b0]; exact h1, by rw [b1]; exact h2, by rw [a4]; exact h3, by rw [u (10 + (10 * y + x)) (by omega)]; exact h4⟩
  · rw [b2] at hd
    obtain ⟨p0, p1, p2, p3, p4, p5, p6, p7, p8⟩ := o6 d hd
    obtain ⟨c0, d0⟩ := q (110 + 10 * d) (by omega)
    obtain ⟨c1, d1⟩ := q (111 + 10 * d) (by omega)
    obtain ⟨c2, d2⟩ := q (112 + 10 * d) (by omega)
    obtain ⟨c3, d3⟩ := q (113 + 10 * d) (by omega)
    obtain ⟨c4, d4⟩ := q (114 + 10 * d) (by omega)
    obtain ⟨c5, d5⟩ := q (115 + 10 * d) (by omega)
    obtain ⟨c6, d6⟩ := q (116 + 10 * d) (by omega)
    obtain ⟨c7, d7⟩ := q (117 + 10 * d) (by omega)
    refine ⟨by rw [c0, d0, b0]; exact p0, by rw [c1, d1, b1]; exact p1, by rw [c2]; exact p2, by rw [c3, d3]; exact p3, by rw [c4, d4]; exact p4, by rw [c5, d5]; exact p5, by rw [c6, d6]; exact p6, by rw [c7]; exact p7, fun p hp => ?_⟩
    rw [leafL_w u (by omega)] at hp
    obtain ⟨z1, z2⟩ := p8 p hp
    refine ⟨by rw [inH_w u]; exact z1, ?_⟩
    have z3 := z1
    unfold inH at z3
    simp only [Bool.and_eq_true, decide_eq_true_eq] at z3
    rw [u (10 + cellN p) (by unfold cellN; omega)]
    exact z2
  · rw [b0] at hx; rw [b1] at hy
    obtain ⟨c1, d1⟩ := q (10 + (10 * y + x)) (by omega)
    obtain ⟨c2, d2⟩ := q (210 + (10 * y + x)) (by omega)
    rw [c1, c2, d2, b2]
    obtain ⟨z1, z2, z3, z4⟩ := o7 x y hx hy
    exact ⟨z1, z2, z3, fun d hd => by rw [leafC_w u (by omega)]; exact z4 d hd⟩
  · rw [b3] at hk
    have := o4.2
    obtain ⟨c1, d1⟩ := q (310 + k) (by omega)
    rw [c1, d1, b2]
    exact o8 k hk
theorem OW_w {an : Nat → Nat} {p : Int32} (u : upW r r') (ok : okRow r) (O : OW r an p) : OW r' an p := by
  have := ok.1.2
  have := ok.2.1.2
  have := ok.2.2.1.2
  have n0 := u.n (i := 0) (by omega)
  have n1 := u.n (i := 1) (by omega)
  have n2 := u.n (i := 2) (by omega)
  have hg : ∀ d, d < 10 → hgN r' d = hgN r d := fun d hd => u.n (i := 114 + 10 * d) (by omega)
  have lf : ∀ d, d < 10 → lfD r' an d = lfD r an d := fun d hd => by unfold lfD; rw [hg d hd, leafC_w u hd]
  obtain ⟨o1, o2, o3⟩ := O
  refine ⟨fun d hd => ?_, fun d e hd he hne c hc => ?_, ?_⟩
  · rw [n2] at hd
    rw [hg d (by omega), canB_w u (by omega) (by omega) (by omega)]
    exact o1 d hd
  · rw [n2] at hd he
    rw [lf d (by omega)] at hc
    rw [lf e (by omega)]
    exact o2 d e hd he hne c hc
  · rcases o3 with z | ⟨x, y, h1, h2, h3, h4⟩
    · exact Or.inl z
    · exact Or.inr ⟨x, y, by rw [n0]; exact h1, by rw [n1]; exact h2, h3, by rw [u (10 + (10 * y + x)) (by omega), u (210 + (10 * y + x)) (by omega)]; exact h4⟩
theorem OW_of {f : Nat → Int32} {p : Int32} (w : okWalk r f p) : OW r (fun d => (f d).toNatClampNeg) p ∧ ∀ d, d < rN r 2 → f d = nI (f d).toNatClampNeg := by
  obtain ⟨w1, w2, w3⟩ := w
  exact ⟨⟨fun d hd => (w1 d hd).2, w2, w3⟩, fun d hd => (w1 d hd).1⟩
theorem OW_to {f : Nat → Int32} {an : Nat → Nat} {p : Int32} (O : OW r an p) (h : ∀ d, d < rN r 2 → f d = nI (an d)) : okWalk r f p := by
  obtain ⟨o1, o2, o3⟩ := O
  have e : ∀ d, d < rN r 2 → (f d).toNatClampNeg = an d := fun d hd => by rw [h d hd, nI_clamp (by have := (o1 d hd).1; omega)]
  refine ⟨fun d hd => ⟨by rw [e d hd]; exact h d hd, by rw [e d hd]; exact (o1 d hd).1, by rw [e d hd]; exact (o1 d hd).2⟩, fun d e' hd he hne c hc => ?_, o3⟩
  rw [e d hd] at hc
  rw [e e' he]
  exact o2 d e' hd he hne c hc
end
/-- somebody has moved: angles and place are new, and the row tells them -/
theorem RelC.moved {n : Nat} {F : Fz} {g : gH} {xs xs' : XS} {ms ms' : MS} {ho dy : Nat} {r r' : Row} {an : Nat → Nat} {p : Int32} {I A : List Nat} (R : RelC n F g xs ms) (hb : ms.1 22 = 1) (hr : ms.2.2.1 14 = r) (h1 : xs.2.1 200 = some ho) (h2 : xs.2.1 11 = some dy) (hA : IsAll F ho (xs.2.2.1 200) (xs.2.2.1 201) (xs.2.2.2.1 0 3) dy (xs.2.1 42) r (ms.2.2.2 18))
    (K : kept 0 xs xs') (W : WX 0 ho r an p xs') (O : OW r an p) (u : upW r r') (r1 : ∀ d, d < rN r 2 → r' (330 + d) = nI (an d)) (r2 : r' 340 = p) (B : sameB I A [] ms ms') (hI : ∀ k ∈ [2, 10, 22, 37, 38, 42, 57], k ∉ I) (hAA : ∀ k ∈ [1, 17, 21, 35, 36, 41, 48, 54], k ∉ A) (hr' : ms'.2.2.1 14 = r') (hmin : xs'.2.2.2.1 0 4 = ms'.1 23) : RelC n F g xs' ms' := by
  obtain ⟨k1, k2, k3, k4, k5⟩ := K
  have m22 : ms'.1 22 = 1 := by rw [B.1 22 (hI 22 (by decide))]; exact hb
  refine R.now (fun k _ => by rw [k1]) (fun k hk => k3 k (fun z => by subst z; exact absurd hk (by decide))) (fun j hj => k4 j 0 (Or.inl (fun z => by subst z; exact absurd hj (by decide)))) (by rw [k5]) (fun k hk => B.1 k (hI k (by revert k; decide))) (Or.inr m22) (fun k hk => B.2.1 k (hAA k hk)) (by rw [B.2.2 20 (by simp)]) hmin ⟨ho, dy, by rw [k2]; exact h1, by rw [k2]; exact h2, ?_⟩
  rw [eRow_begun m22, hr', B.2.2 18 (by simp)]
  obtain ⟨a1, a2, a3, a4, a5, a6, a7, a8⟩ := hA
  have n2 := u.n (i := 2) (by omega)
  have hm := a2.2.2.1.2
  refine ⟨house_w u a2 a1, okRow_w u a2, fun d hd => ?_, fun d hd => ?_, ?_, ?_, day_w u a7, by rw [k2]; exact sent_w u a8⟩
  · rw [n2] at hd
    rw [k3 200 (by decide), u (114 + 10 * d) (by omega)]; exact a3 d hd
  · rw [n2] at hd
    rw [r1 d hd]; exact W.2.2.1 d hd
  · rw [r2]; exact W.2.2.2
  · have := W.2.2.2
    rw [this]
    exact OW_to (OW_w u a2 O) (fun d hd => by rw [n2] at hd; exact W.2.2.1 d hd)
/-- now, as the walkers' functions take it -/
theorem RelC.walk {F : Fz} {xs : XS} {ho dy : Nat} {r : Row} {nm : Nat → Int64} (hA : IsAll F ho (xs.2.2.1 200) (xs.2.2.1 201) (xs.2.2.2.1 0 3) dy (xs.2.1 42) r nm) (h1 : xs.2.1 200 = some ho) : ∃ an, WX 0 ho r an (r 340) xs ∧ OW r an (r 340) ∧ ∀ d, d < rN r 2 → r (330 + d) = nI (an d) := by
  obtain ⟨a1, a2, a3, a4, a5, a6, -⟩ := hA
  obtain ⟨O, e⟩ := OW_of a6
  rw [a5] at O
  exact ⟨_, ⟨h1, fun d hd => (a3 d hd).trans (hgN_ok a2 hd).1, e, a5⟩, O, fun d hd => (a4 d hd).symm.trans (e d hd)⟩
theorem takeNow_run {r : Row} {an : Nat → Nat} (ok : okRow r) {m m0 : MS} (hl : M_X10_lay m0 = some ((), m)) (hr : m.2.2.1 14 = r) (O : OW r an (r 340)) (ha : ∀ d, d < rN r 2 → r (330 + d) = nI (an d)) : Ok (M_X10_takeNow m0) (fun _ m' => WM r an (r 340) m' ∧ m'.1 46 = nI 0 ∧ (∀ d, d < 10 → m'.2.2.1 43 d = r (330 + d)) ∧ sameB [26, 45, 46] [24, 25, 43, 44] [] m m') := by
  have hm := ok.2.2.1.2
  unfold M_X10_takeNow
  rw [t_of hl]
  refine Ok.bT (P := fun _ m' => (∀ d, d < 10 → m'.2.2.1 43 d = r (330 + d)) ∧ sameB [] [43] [] m m') (Ok.forTs (S := Int32) (fun i => nI i) 10 (fun i m' => (∀ d, d < i → m'.2.2.1 43 d = r (330 + d)) ∧ sameB [] [43] [] m m') (i := 0) rfl (by omega) ⟨fun d hd => by omega, sameB.rf⟩ (fun i m1 hi hI => ?_) (fun m1 hI => ?_)) (fun _ m1 ⟨q1, q2⟩ => ?_)
  · obtain ⟨i1, i2⟩ := hI
    have hr1 : m1.2.2.1 14 = r := (i2.2.1 14 (by decide)).trans hr
    simp (disch := omega) only [tq_I, tq_L, tq_sI, tq_sL, tq_lv, tq_pure, lvT, TM.bind_assoc, TM.pure_bind, TM.bind_pure, te_An, te_Bn, te_sAn, te_sBn, t_doors, t_hasn, t_isIn, t_of0, t_of1, t_of2, t_of3, t_of4, t_of5, t_of6, t_of7, lit, nI_add, nI_mul, nI_subn, le_t, le_f, lt_t, lt_f, eq_t, eq_f, eqm_f, ltz_f, cond_true, cond_false, if_true, if_false, hr1]
    refine Ok.pT ⟨rfl, fun d hd => ?_, i2.uA (by decide)⟩
    rw [uA_22, va_eq]
    by_cases z : d = i
    · rw [z, va_eq]
    · rw [va_ne z]; exact i1 d (by omega)
  · simp (disch := omega) only [tq_I, tq_L, tq_sI, tq_sL, tq_lv, tq_pure, lvT, TM.bind_assoc, TM.pure_bind, TM.bind_pure, te_An, te_Bn, te_sAn, te_sBn, t_doors, t_hasn, t_isIn, t_of0, t_of1, t_of2, t_of3, t_of4, t_of5, t_of6, t_of7, lit, nI_add, nI_mul, nI_subn, le_t, le_f, lt_t, lt_f, eq_t, eq_f, eqm_f, ltz_f, cond_true, cond_false, if_true, if_false]
    exact Ok.pT hI
  · have hr1 : m1.2.2.1 14 = r := (q2.2.1 14 (by decide)).trans hr
    simp (disch := omega) only [tq_I, tq_L, tq_sI, tq_sL, tq_lv, tq_pure, lvT, TM.bind_assoc, TM.pure_bind, TM.bind_pure, te_An, te_Bn, te_sAn, te_sBn, t_doors, t_hasn, t_isIn, t_of0, t_of1, t_of2, t_of3, t_of4, t_of5, t_of6, t_of7, lit, nI_add, nI_mul, nI_subn, le_t, le_f, lt_t, lt_f, eq_t, eq_f, eqm_f, ltz_f, cond_true, cond_false, if_true, if_false, hr1]
    have a43 : ∀ d, d < rN r 2 → (uI (uI m1 45 (r 340)) 46 (nI 0)).2.2.1 43 d = nI (an d) := fun d hd => by
      rw [uI_2, uI_2, q1 d (by omega)]; exact ha d hd
    refine Ok.bT (layLeaves_run ok (m := uI (uI m1 45 (r 340)) 46 (nI 0)) hr1 a43 O.1) (fun _ m2 ⟨L, B⟩ => Ok.pT ⟨⟨?_, ?_, ?_, L⟩, ?_, ?_, ?_⟩)
    · rw [B.2.1 14 (by decide)]; exact hr1
    · rw [B.2.1 43 (by decide)]; exact a43
    · rw [B.1 45 (by decide)]; simp (disch := omega) only [uI_1, uI_2, uA_1, uA_21, uA_22, uA_3, uB_1, uB_21, uB_22, uB_3, uL_1, uL_21, uL_22, zI_1, zI_2, zR_1, zR_21, zR_22, zA_1, zA_21, zA_221, zA_222, zAA_1, zAA_21, zAA_221, zAA_222, zW_1, zW_21, zW_221, zW_2221, zW_2222, zL_1, zL_21, zL_221, zL_2221, zL_22221, zL_22222, va_eq, va_ne]
    · rw [B.1 46 (by decide)]; simp (disch := omega) only [uI_1, uI_2, uA_1, uA_21, uA_22, uA_3, uB_1, uB_21, uB_22, uB_3, uL_1, uL_21, uL_22, zI_1, zI_2, zR_1, zR_21, zR_22, zA_1, zA_21, zA_221, zA_222, zAA_1, zAA_21, zAA_221, zAA_222, zW_1, zW_21, zW_221, zW_2221, zW_2222, zL_1, zL_21, zL_221, zL_2221, zL_22221, zL_22222, va_eq, va_ne]
    · rw [B.2.1 43 (by decide)]; exact q1
    · exact (((q2.up (by decide) (by decide) (by decide)).uI (by decide)).uI (by decide)).tr (B.up (by decide) (by decide) (by decide))
theorem keepNow_run {r : Row} {m : MS} (hr : m.2.2.1 14 = r) : Ok (M_X10_keepNow m) (fun _ m' => ∃ r', m'.2.2.1 14 = r' ∧ upW r r' ∧ (∀ d, d < 10 → r' (330 + d) = m.2.2.1 43 d) ∧ r' 340 = m.1 45 ∧ sameB [] [14] [] m m') := by
  unfold M_X10_keepNow
  refine Ok.bT (P := fun _ m' => (∀ i, i < 330 ∨ 340 ≤ i → m'.2.2.1 14 i = r i) ∧ (∀ d, d < 10 → m'.2.2.1 14 (330 + d) = m.2.2.1 43 d) ∧ sameB [] [14] [] m m') (Ok.forTs (S := Int32) (fun i => nI i) 10 (fun k m' => (∀ i, i < 330 ∨ 340 ≤ i → m'.2.2.1 14 i = r i) ∧ (∀ d, d < k → m'.2.2.1 14 (330 + d) = m.2.2.1 43 d) ∧ sameB [] [14] [] m m') (i := 0) rfl (by omega) ⟨fun i _ => by rw [hr], fun d hd => by omega, sameB.rf⟩ (fun k m1 hk hI => ?_) (fun m1 hI => ?_)) (fun _ m1 ⟨q1, q2, q3⟩ => ?_)
  · obtain ⟨i1, i2, i3⟩ := hI
    have e43 : m1.2.2.1 43 = m.2.2.1 43 := i3.2.1 43 (by decide)
    simp (disch := omega) only [tq_I, tq_L, tq_sI, tq_sL, tq_lv, tq_pure, lvT, TM.bind_assoc, TM.pure_bind, TM.bind_pure, te_An, te_Bn, te_sAn, te_sBn, t_doors, t_hasn, t_isIn, t_of0, t_of1, t_of2, t_of3, t_of4, t_of5, t_of6, t_of7, lit, nI_add, nI_mul, nI_subn, le_t, le_f, lt_t, lt_f, eq_t, eq_f, eqm_f, ltz_f, cond_true, cond_false, if_true, if_false, e43]
    refine Ok.pT ⟨rfl, fun i hi => ?_, fun d hd => ?_, i3.uA (by decide)⟩
    · rw [uA_22, va_eq, va_ne (by omega)]; exact i1 i hi
    · rw [uA_22, va_eq]
      by_cases z : d = k
      · rw [z, va_eq]
      · rw [va_ne (by omega)]; exact i2 d (by omega)
  · simp (disch := omega) only [tq_I, tq_L, tq_sI, tq_sL, tq_lv, tq_pure, lvT, TM.bind_assoc, TM.pure_bind, TM.bind_pure, te_An, te_Bn, te_sAn, te_sBn, t_doors, t_hasn, t_isIn, t_of0, t_of1, t_of2, t_of3, t_of4, t_of5, t_of6, t_of7, lit, nI_add, nI_mul, nI_subn, le_t, le_f, lt_t, lt_f, eq_t, eq_f, eqm_f, ltz_f, cond_true, cond_false, if_true, if_false]
    exact Ok.pT hI
  · have e45 : m1.1 45 = m.1 45 := q3.1 45 (by decide)
    simp (disch := omega) only [tq_I, tq_L, tq_sI, tq_sL, tq_lv, tq_pure, lvT, TM.bind_assoc, TM.pure_bind, TM.bind_pure, te_An, te_Bn, te_sAn, te_sBn, t_doors, t_hasn, t_isIn, t_of0, t_of1, t_of2, t_of3, t_of4, t_of5, t_of6, t_of7, lit, nI_add, nI_mul, nI_subn, le_t, le_f, lt_t, lt_f, eq_t, eq_f, eqm_f, ltz_f, cond_true, cond_false, if_true, if_false, e45]
    refine Ok.pT ⟨_, rfl, fun i hi => ?_, fun d hd => ?_, ?_, q3.uA (by decide)⟩
    · rw [uA_22, va_eq, va_ne (by omega)]; exact q1 i (by omega)
    · rw [uA_22, va_eq, va_ne (by omega)]; exact q2 d hd
    · rw [uA_22, va_eq, va_eq]
