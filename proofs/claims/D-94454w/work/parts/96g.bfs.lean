set_option maxRecDepth 100000
/-! ===== ring by ring ===== -/
theorem php : ∀ (M N : Nat) (f : Nat → Nat), (∀ i, i < N → f i < M) → (∀ i j, i < j → j < N → f i ≠ f j) → N ≤ M
  | 0, N, f, h1, _ => by
    apply Nat.le_of_not_lt
    intro z
    exact absurd (h1 0 z) (by omega)
  | M + 1, N, f, h1, h2 => by
    by_cases hM : ∃ i, i < N ∧ f i = M
    · obtain ⟨i0, hi0, e0⟩ := hM
      have := php M (N - 1) (fun j => if j < i0 then f j else f (j + 1)) (fun j hj => by
        by_cases z : j < i0
        · rw [if_pos z]
          have a := h1 j (by omega)
          have b := h2 j i0 z hi0
          omega
        · rw [if_neg z]
          have a := h1 (j + 1) (by omega)
          have b := h2 i0 (j + 1) (by omega) (by omega)
          omega) (fun i j hij hj => by
        by_cases z : i < i0
        · by_cases y : j < i0
          · rw [if_pos z, if_pos y]; exact h2 i j hij (by omega)
          · rw [if_pos z, if_neg y]; exact h2 i (j + 1) (by omega) (by omega)
        · rw [if_neg z, if_neg (by omega)]; exact h2 (i + 1) (j + 1) (by omega) (by omega))
      omega
    · have := php M N f (fun i hi => by
        have a := h1 i hi
        have b : f i ≠ M := fun e => hM ⟨i, hi, e⟩
        omega) h2
      omega
/-- only the search's own has changed -/
def sameS (xs xs' : XS) : Prop := (∀ k, k ≠ 38 → xs'.1 k = xs.1 k) ∧ (∀ k, k ≠ 201 → xs'.2.1 k = xs.2.1 k) ∧ (∀ k, k ∉ [34, 35, 36, 210, 211] → xs'.2.2.1 k = xs.2.2.1 k) ∧ (∀ i k, i ≠ 1 → xs'.2.2.2.1 i k = xs.2.2.2.1 i k) ∧ xs'.2.2.2.2 = xs.2.2.2.2
theorem sameS.rf {xs : XS} : sameS xs xs := ⟨fun _ _ => rfl, fun _ _ => rfl, fun _ _ => rfl, fun _ _ _ => rfl, rfl⟩
theorem sameS.tr {a b c : XS} (h : sameS a b) (k : sameS b c) : sameS a c := ⟨fun i hi => (k.1 i hi).trans (h.1 i hi), fun i hi => (k.2.1 i hi).trans (h.2.1 i hi), fun i hi => (k.2.2.1 i hi).trans (h.2.2.1 i hi), fun i l hi => (k.2.2.2.1 i l hi).trans (h.2.2.2.1 i l hi), k.2.2.2.2.trans h.2.2.2.2⟩
theorem sameT.s {a b : XS} (h : sameT a b) : sameS a b := ⟨fun k _ => by rw [h.1], h.2.1, fun k hk => h.2.2.1 k (nin_ne hk (by decide)) (nin_ne hk (by decide)), h.2.2.2.1, h.2.2.2.2⟩
theorem sameX.s {a b : XS} (h : sameX [38] [34, 35, 36] a b) : sameS a b := ⟨fun k hk => h.1 k (by simp [hk]), fun k _ => by rw [h.2.1], fun k hk => h.2.2.1 k (fun z => hk (by simp at z ⊢; omega)), fun i k _ => by rw [h.2.2.2], by rw [h.2.2.2]⟩
theorem RelC.searched {n : Nat} {F : Fz} {g : gH} {xs xs' : XS} {ms : MS} (R : RelC n F g xs ms) (h : sameS xs xs') : RelC n F g xs' ms := by
  obtain ⟨h1, h2, h3, h4, h5⟩ := h
  obtain ⟨r1, r2, r3, r4, r5, r6, r7, r8, r9, r10, r11, r12, r13⟩ := R
  refine ⟨?_, ?_, ?_, ?_, r5, ?_, ?_, ?_, ?_, ?_, ?_, ?_, ?_⟩
  · unfold Rsys at r1 ⊢; rw [h4 5 0 (by decide), h4 6 0 (by decide), h4 7 0 (by decide), h5]; exact r1
  · rw [h1 1 (by decide), h3 0 (by decide)]; exact r2
  · rw [h1 14 (by decide)]; exact r3
  · rw [h4 0 4 (by decide)]; exact r4
  · rw [h2 200 (by decide), h2 11 (by decide), h2 42 (by decide), h4 0 3 (by decide), h3 200 (by decide), h3 201 (by decide)]; exact r6
  · rw [h5]; exact r7
  · rw [h1 24 (by decide), h3 22 (by decide)]; exact r8
  · rw [h1 25 (by decide), h3 23 (by decide)]; exact r9
  · rw [h1 31 (by decide), h3 27 (by decide)]; exact r10
  · rw [h1 39 (by decide), h3 37 (by decide)]; exact r11
  · rw [h1 39 (by decide), h3 37 (by decide)]; exact r12
  · rw [h1 33 (by decide), h3 32 (by decide)]; exact r13
theorem sameS.wx {ho : Nat} {r : Row} {an : Nat → Nat} {p : Int32} {xs xs' : XS} (h : sameS xs xs') (W : WX 0 ho r an p xs) : WX 0 ho r an p xs' := ⟨by rw [h.2.1 200 (by decide)]; exact W.1, by rw [h.2.2.1 200 (by decide)]; exact W.2.1, by rw [h.2.2.1 201 (by decide)]; exact W.2.2.1, by rw [h.2.2.2.1 0 3 (by decide)]; exact W.2.2.2⟩
/-- a number tells a state that can be -/
def okCode (r : Row) (s : Nat) : Prop := ∃ an c, c < 100 ∧ OW r an (nI c) ∧ s = codeN r an c
/-- how the search stands: N states q, each but the first with an earlier one (par) and an act (bya) it came by -/
def Bfs (r : Row) (N : Nat) (q par bya : Nat → Nat) (xs : XS) (m : MS) : Prop :=
  1 ≤ N ∧ xs.1 38 = nI N ∧ m.1 55 = nI N ∧ (∀ i, i < N → okCode r (q i) ∧ q i < 24300 ∧ xs.2.2.1 36 i = nI (q i) ∧ m.2.2.1 50 i = nI (q i)) ∧ (∀ i j, i < j → j < N → q i ≠ q j) ∧
  (∀ s, s < 24300 → (∀ i, i < N → q i ≠ s) → xs.2.2.1 34 s = -nI 1 ∧ m.2.2.1 52 s = -nI 5) ∧ (xs.2.2.1 34 (q 0) = nI (q 0) ∧ m.2.2.1 52 (q 0) = -nI 4) ∧
  ∀ i, 1 ≤ i → i < N → par i < i ∧ bya i < 14 ∧ xs.2.2.1 34 (q i) = nI (q (par i)) ∧ xs.2.2.1 35 (q i) = nI (bya i) ∧ m.2.2.1 51 (q i) = nI (q (par i)) ∧ m.2.2.1 52 (q i) = nI (bya i)
theorem Bfs.le {r : Row} {N : Nat} {q par bya : Nat → Nat} {xs : XS} {m : MS} (b : Bfs r N q par bya xs m) : N ≤ 24300 := php 24300 N q (fun i hi => (b.2.2.2.1 i hi).2.1) b.2.2.2.2.1
theorem Bfs.keep {r : Row} {N : Nat} {q par bya : Nat → Nat} {xs xs' : XS} {m m' : MS} (b : Bfs r N q par bya xs m) (h1 : xs'.1 38 = xs.1 38) (h2 : ∀ k ∈ [34, 35, 36], xs'.2.2.1 k = xs.2.2.1 k) (h3 : m'.1 55 = m.1 55) (h4 : ∀ k ∈ [50, 51, 52], m'.2.2.1 k = m.2.2.1 k) : Bfs r N q par bya xs' m' := by
  unfold Bfs at b ⊢
  rw [h1, h2 34 (by decide), h2 35 (by decide), h2 36 (by decide), h3, h4 50 (by decide), h4 51 (by decide), h4 52 (by decide)]
  exact b
def SQ (n : Nat) (G : gH) (r : Row) (xs : XS) (m1 : MS) (h : gH) (m : MS) : Prop := ∃ xs' N q par bya, h = mkX n G xs' ∧ Bfs r N q par bya xs' m ∧ sameS xs xs' ∧ sameB [26, 45, 46, 55] [24, 25, 43, 44, 50, 51, 52] [] m1 m
section
variable {n : Nat} {F : Fz} {G : gH} {ho : Nat} {r : Row} {nm : Nat → Int64}
theorem eq5 : ¬ (-nI 4 = -nI 5) := by decide
theorem ne5 {a : Nat} (h : a < 2 ^ 31) : ¬ nI a = -nI 5 := by
  intro e
  have := congrArg Int32.toInt e
  rw [nI_toInt h] at this
  have e : (-nI 5).toInt = -5 := by decide
  rw [e] at this
  omega
set_option maxHeartbeats 4000000 in
theorem act1_two (Z : FrzX n F G) (H : IsHouse F ho r nm) (ok : okRow r) (h5 : rN r 2 ≤ 5) {xs0 xs : XS} {m1 m : MS} {an0 : Nat → Nat} {p0 : Int32} (W0 : WX 0 ho r an0 p0 xs0) (hr : m1.2.2.1 14 = r) {N : Nat} {q par bya : Nat → Nat} (b : Bfs r N q par bya xs m) (S : sameS xs0 xs) (B : sameB [26, 45, 46, 55] [24, 25, 43, 44, 50, 51, 52] [] m1 m) {i act : Nat} (hi : i < N) (hact : act < 4 + 2 * rN r 2) :
    Two ((Mo.bind (M_X1_unfold n (nI (q i))) (fun v24 => Mo.bind (gR [0] n 10) (fun v25 => Mo.bind (M_X3_minute v25 (nI act)) (fun v26 => (if v26 ≤ 0 then Mo.bind (gR [0] n 10) (fun v29 => Mo.bind (M_X1_code v29) (fun v30 => Mo.bind (gR [0] n 34) (fun v31 => Mo.bind (aldI 0 v31 v30) (fun v32 => if v32 = (-1) then Mo.bind (gR [0] n 34) (fun v33 => Mo.bind (astI 0 v33 v30 (nI (q i))) (fun _ => Mo.bind (gR [0] n 35) (fun v34 => Mo.bind (astI 0 v34 v30 (nI act)) (fun _ => Mo.bind (gR [0] n 36) (fun v35 => Mo.bind (gI [0] n 38) (fun v36 => Mo.bind (astI 0 v35 v36 v30) (fun _ => Mo.bind (gI [0] n 38) (fun v37 => Mo.bind (pF [0] n 38 (.int (v37 + 1))) (fun _ => Mo.pure ()))))))))) else Mo.pure ())))) else Mo.pure () : Mo (Unit)))))).1 (mkX n G xs)) (TM.bind (M_X10_layState (nI (q i))) (fun v17 => TM.bind (M_X10_minute (nI act)) (fun v18 => (if v18 = 0 then TM.bind (M_X10_stateAtHand) (fun v21 => TM.bind (tA 52 24300 v21) (fun v22 => if v22 = (-5) then TM.bind (sA 52 24300 v21 (nI act)) (fun _ => TM.bind (sA 51 24300 v21 (nI (q i))) (fun _ => TM.bind (tI 55) (fun v23 => TM.bind (sA 50 24300 v23 v21) (fun _ => TM.bind (tI 55) (fun v24 => TM.bind (sI 55 (v24 + 1)) (fun _ => TM.pure ())))))) else TM.pure ())) else TM.pure () : TM Unit))) m) (fun _ h' _ m' => ∃ xs' N' q' par' bya', h' = mkX n G xs' ∧ Bfs r N' q' par' bya' xs' m' ∧ N ≤ N' ∧ (∀ k, k < N → q' k = q k) ∧ sameS xs0 xs' ∧ sameB [26, 45, 46, 55] [24, 25, 43, 44, 50, 51, 52] [] m1 m') := by
  have b0 := b
  obtain ⟨b1, b2, b3, b4, b5, b6, b7, b8⟩ := b0
  obtain ⟨⟨an, c, hc, O, ec⟩, qi, q36, q50⟩ := b4 i hi
  have hNle := b.le
  have hr1 : m.2.2.1 14 = r := (B.2.1 14 (by decide)).trans hr
  rw [ec]
  refine Two.l (unfold_run Z H ok hc (S.wx W0) h5 O) fun _ h' ⟨xs1, q1, W1, T1⟩ => ?_
  subst q1
  refine Two.r (layState_run ok hr1 hc h5 O) fun _ m2 ⟨V, B2⟩ => ?_
  rw [x_R10]
  have mt : Two ((M_X3_minute (n + 15) (nI act)).1 (mkX n G xs1)) (M_X10_minute (nI act) m2) (MinQ n G 1 ho r an (nI c) xs1 m2) := minute_two Z H ok (j := 1) (by decide) W1 V O (Or.inr ⟨act, hact, rfl⟩)
  refine Two.b mt fun v h2 v' m3 ⟨y1, y2⟩ => ?_
  subst y1
  rcases y2 with ⟨-, ⟨k, c1, c2, rfl⟩, rfl, y4⟩ | ⟨rfl, an', p', xs2, s, rfl, W2, V2, O2, hp, K, k4, -, -, -, B3⟩
  · have bk : Bfs r N q par bya xs1 m3 := b.keep (by rw [T1.1]) (fun k hk => T1.2.2.1 k (fun z => by subst z; exact absurd hk (by decide)) (fun z => by subst z; exact absurd hk (by decide))) (by rw [y4.1 55 (by decide), B2.1 55 (by decide)]) (fun k hk => by rw [y4.2.1 k (fun z => by revert hk; simp at z; rcases z with rfl | rfl <;> decide), B2.2.1 k (fun z => by revert hk; simp at z; rcases z with rfl | rfl | rfl | rfl <;> decide)])
    simp (disch := omega) only [x_I1, x_I14, x_I18, x_I19, x_I2, x_I20, x_I24, x_I25, x_I3, x_I31, x_I33, x_I38, x_I39, x_R0, x_R10, x_R12, x_R13, x_R15, x_R16, x_R17, x_R21, x_R22, x_R23, x_R26, x_R27, x_R28, x_R29, x_R30, x_R32, x_R34, x_R35, x_R36, x_R37, x_R4, x_R40, x_R41, x_R43, x_R44, x_R45, x_R5, x_R6, x_R7, x_R8, x_R9, x_chk, x_chk15, x_chk7, x_w0I3, x_w0I4, x_w0I5, x_w0R1, x_w0R2, x_w1I3, x_w1I4, x_w1I5, x_w1R1, x_w1R2, x_sI1, x_sI14, x_sI18, x_sI19, x_sI2, x_sI20, x_sI24, x_sI25, x_sI3, x_sI31, x_sI33, x_sI38, x_sI39, x_sR11, x_sR42, x_w0sI3, x_w0sI4, x_w0sI5, x_w0sR, x_w1sI3, x_w1sI4, x_w1sI5, x_w1sR, x_A1n, x_sA1n, x_A13n, x_sA13n, x_A14n, x_sA14n, x_A21n, x_sA21n, x_A22n, x_sA22n, x_A27n, x_sA27n, x_A28n, x_sA28n, x_A29n, x_sA29n, x_A30n, x_sA30n, x_A31n, x_sA31n, x_A32n, x_sA32n, x_A33n, x_sA33n, x_A34n, x_sA34n, x_A35n, x_sA35n, x_A36n, x_sA36n, x_A37n, x_sA37n, x_A38n, x_sA38n, x_A39n, x_sA39n, x_A40n, x_sA40n, x_A41n, x_sA41n, x_A42n, x_sA42n, x_A43n, x_sA43n, evq_lv, evq_pure, lvM, m_hasn, m_isIn, m_one, m_isHang, x_w0R0e, x_R11e, x_w1R0e, Option.elim_some, Mo.bind_assoc, Mo.pure_bind, Mo.bind_pure, lit, nI_add, nI_mul, nI_subn, le_t, le_f, lt_t, lt_f, eq_t, eq_f, eqm_f, ltz_f, cond_true, cond_false, if_true, if_false, tq_I, tq_L, tq_sI, tq_sL, tq_lv, tq_pure, lvT, TM.bind_assoc, TM.pure_bind, TM.bind_pure, te_An, te_Bn, te_sAn, te_sBn, t_doors, t_hasn, t_isIn, t_of0, t_of1, t_of2, t_of3, t_of4, t_of5, t_of6, t_of7, lit, nI_add, nI_mul, nI_subn, le_t, le_f, lt_t, lt_f, eq_t, eq_f, eqm_f, ltz_f, cond_true, cond_false, if_true, if_false]
    exact Two.pp ⟨xs1, N, q, par, bya, rfl, bk, Nat.le_refl _, fun _ _ => rfl, S.tr T1.s, (B.tr (B2.up (by decide) (by decide) (by decide))).tr (y4.up (by decide) (by decide) (by decide))⟩
  · have T2 := T1.tr K.t
    have B4 := (B.tr (B2.up (by decide) (by decide) (by decide))).tr (B3.up (I' := [26, 45, 46, 55]) (A' := [24, 25, 43, 44, 50, 51, 52]) (B' := []) (by decide) (by decide) (by decide))
    have bk : Bfs r N q par bya xs2 m3 := b.keep (by rw [T2.1]) (fun k hk => T2.2.2.1 k (fun z => by subst z; exact absurd hk (by decide)) (fun z => by subst z; exact absurd hk (by decide))) (by rw [B3.1 55 (by decide), B2.1 55 (by decide)]) (fun k hk => by rw [B3.2.1 k (fun z => by revert hk; simp at z; rcases z with rfl | rfl | rfl | rfl <;> decide), B2.2.1 k (fun z => by revert hk; simp at z; rcases z with rfl | rfl | rfl | rfl <;> decide)])
    obtain ⟨x, y, hx, hy, rfl⟩ : ∃ x y, x < rN r 0 ∧ y < rN r 1 ∧ p' = nI (10 * y + x) := by
      rcases O2.place with z | z
      · exact absurd z (hp (nI_ne_neg (by omega)))
      · exact z
    have c10 := ok.1.2
    have r10 := ok.2.1.2
    have hc' : 10 * y + x < 100 := by omega
    generalize 10 * y + x = c' at *
    have cd : (M_X1_code (n + 15)).1 (mkX n G xs2) = some (nI (codeN r an' c'), mkX n G xs2) := code_run Z H ok (j := 1) (by decide) W2 O2 h5
    have cdT := codeT_run ok V2 h5
    have hv := code_lt h5 O2 hc'
    have okc : okCode r (codeN r an' c') := ⟨an', c', hc', O2, rfl⟩
    generalize codeN r an' c' = w at *
    obtain ⟨d1, d2, d3, d4, d5, d6, d7, d8⟩ := bk
    by_cases hw : ∃ k, k < N ∧ q k = w
    · -- one that is known
      obtain ⟨k, hk, rfl⟩ := hw
      have known : xs2.2.2.1 34 (q k) ≠ -nI 1 ∧ m3.2.2.1 52 (q k) ≠ -nI 5 := by
        by_cases z : k = 0
        · subst z; rw [d7.1, d7.2]; exact ⟨nI_ne_neg (by omega), eq5⟩
        · obtain ⟨z1, z2, z3, z4, z5, z6⟩ := d8 k (by omega) hk
          rw [z3, z6]
          exact ⟨nI_ne_neg (by have := (d4 (par k) (by omega)).2.1; omega), ne5 (by omega)⟩
      simp (disch := omega) only [x_I1, x_I14, x_I18, x_I19, x_I2, x_I20, x_I24, x_I25, x_I3, x_I31, x_I33, x_I38, x_I39, x_R0, x_R10, x_R12, x_R13, x_R15, x_R16, x_R17, x_R21, x_R22, x_R23, x_R26, x_R27, x_R28, x_R29, x_R30, x_R32, x_R34, x_R35, x_R36, x_R37, x_R4, x_R40, x_R41, x_R43, x_R44, x_R45, x_R5, x_R6, x_R7, x_R8, x_R9, x_chk, x_chk15, x_chk7, x_w0I3, x_w0I4, x_w0I5, x_w0R1, x_w0R2, x_w1I3, x_w1I4, x_w1I5, x_w1R1, x_w1R2, x_sI1, x_sI14, x_sI18, x_sI19, x_sI2, x_sI20, x_sI24, x_sI25, x_sI3, x_sI31, x_sI33, x_sI38, x_sI39, x_sR11, x_sR42, x_w0sI3, x_w0sI4, x_w0sI5, x_w0sR, x_w1sI3, x_w1sI4, x_w1sI5, x_w1sR, x_A1n, x_sA1n, x_A13n, x_sA13n, x_A14n, x_sA14n, x_A21n, x_sA21n, x_A22n, x_sA22n, x_A27n, x_sA27n, x_A28n, x_sA28n, x_A29n, x_sA29n, x_A30n, x_sA30n, x_A31n, x_sA31n, x_A32n, x_sA32n, x_A33n, x_sA33n, x_A34n, x_sA34n, x_A35n, x_sA35n, x_A36n, x_sA36n, x_A37n, x_sA37n, x_A38n, x_sA38n, x_A39n, x_sA39n, x_A40n, x_sA40n, x_A41n, x_sA41n, x_A42n, x_sA42n, x_A43n, x_sA43n, evq_lv, evq_pure, lvM, m_hasn, m_isIn, m_one, m_isHang, x_w0R0e, x_R11e, x_w1R0e, Option.elim_some, Mo.bind_assoc, Mo.pure_bind, Mo.bind_pure, lit, nI_add, nI_mul, nI_subn, le_t, le_f, lt_t, lt_f, eq_t, eq_f, eqm_f, ltz_f, cond_true, cond_false, if_true, if_false, tq_I, tq_L, tq_sI, tq_sL, tq_lv, tq_pure, lvT, TM.bind_assoc, TM.pure_bind, TM.bind_pure, te_An, te_Bn, te_sAn, te_sBn, t_doors, t_hasn, t_isIn, t_of0, t_of1, t_of2, t_of3, t_of4, t_of5, t_of6, t_of7, lit, nI_add, nI_mul, nI_subn, le_t, le_f, lt_t, lt_f, eq_t, eq_f, eqm_f, ltz_f, cond_true, cond_false, if_true, if_false, ev_call cd, t_of cdT, if_neg known.1, if_neg known.2]
      exact Two.pp ⟨xs2, N, q, par, bya, rfl, ⟨d1, d2, d3, d4, d5, d6, d7, d8⟩, Nat.le_refl _, fun _ _ => rfl, S.tr T2.s, B4⟩
    · -- a new one
      have hnew : ∀ k, k < N → q k ≠ w := fun k hk z => hw ⟨k, hk, z⟩
      obtain ⟨n1, n2⟩ := d6 w hv hnew
      have hN1 : N + 1 ≤ 24300 := php 24300 (N + 1) (fun k => if k < N then q k else w) (fun k hk => by
        by_cases z : k < N
        · rw [if_pos z]; exact (d4 k z).2.1
        · rw [if_neg z]; exact hv) (fun k l hkl hl => by
        rw [if_pos (show k < N by omega)]
        by_cases z : l < N
        · rw [if_pos z]; exact d5 k l hkl z
        · rw [if_neg z]; exact hnew k (by omega))
      have aj : act < 14 := by omega
      simp (disch := omega) only [x_I1, x_I14, x_I18, x_I19, x_I2, x_I20, x_I24, x_I25, x_I3, x_I31, x_I33, x_I38, x_I39, x_R0, x_R10, x_R12, x_R13, x_R15, x_R16, x_R17, x_R21, x_R22, x_R23, x_R26, x_R27, x_R28, x_R29, x_R30, x_R32, x_R34, x_R35, x_R36, x_R37, x_R4, x_R40, x_R41, x_R43, x_R44, x_R45, x_R5, x_R6, x_R7, x_R8, x_R9, x_chk, x_chk15, x_chk7, x_w0I3, x_w0I4, x_w0I5, x_w0R1, x_w0R2, x_w1I3, x_w1I4, x_w1I5, x_w1R1, x_w1R2, x_sI1, x_sI14, x_sI18, x_sI19, x_sI2, x_sI20, x_sI24, x_sI25, x_sI3, x_sI31, x_sI33, x_sI38, x_sI39, x_sR11, x_sR42, x_w0sI3, x_w0sI4, x_w0sI5, x_w0sR, x_w1sI3, x_w1sI4, x_w1sI5, x_w1sR, x_A1n, x_sA1n, x_A13n, x_sA13n, x_A14n, x_sA14n, x_A21n, x_sA21n, x_A22n, x_sA22n, x_A27n, x_sA27n, x_A28n, x_sA28n, x_A29n, x_sA29n, x_A30n, x_sA30n, x_A31n, x_sA31n, x_A32n, x_sA32n, x_A33n, x_sA33n, x_A34n, x_sA34n, x_A35n, x_sA35n, x_A36n, x_sA36n, x_A37n, x_sA37n, x_A38n, x_sA38n, x_A39n, x_sA39n, x_A40n, x_sA40n, x_A41n, x_sA41n, x_A42n, x_sA42n, x_A43n, x_sA43n, evq_lv, evq_pure, lvM, m_hasn, m_isIn, m_one, m_isHang, x_w0R0e, x_R11e, x_w1R0e, Option.elim_some, Mo.bind_assoc, Mo.pure_bind, Mo.bind_pure, lit, nI_add, nI_mul, nI_subn, le_t, le_f, lt_t, lt_f, eq_t, eq_f, eqm_f, ltz_f, cond_true, cond_false, if_true, if_false, tq_I, tq_L, tq_sI, tq_sL, tq_lv, tq_pure, lvT, TM.bind_assoc, TM.pure_bind, TM.bind_pure, te_An, te_Bn, te_sAn, te_sBn, t_doors, t_hasn, t_isIn, t_of0, t_of1, t_of2, t_of3, t_of4, t_of5, t_of6, t_of7, lit, nI_add, nI_mul, nI_subn, le_t, le_f, lt_t, lt_f, eq_t, eq_f, eqm_f, ltz_f, cond_true, cond_false, if_true, if_false, uI_1, uI_2, uA_1, uA_21, uA_22, uA_3, uB_1, uB_21, uB_22, uB_3, uL_1, uL_21, uL_22, zI_1, zI_2, zR_1, zR_21, zR_22, zA_1, zA_21, zA_221, zA_222, zAA_1, zAA_21, zAA_221, zAA_222, zW_1, zW_21, zW_221, zW_2221, zW_2222, zL_1, zL_21, zL_221, zL_2221, zL_22221, zL_22222, va_eq, va_ne, ev_call cd, t_of cdT, n1, n2, if_pos, d2, d3]
      refine Two.pp ⟨_, N + 1, fun k => if k < N then q k else w, fun k => if k < N then par k else i, fun k => if k < N then bya k else act, rfl, ?_, by omega, fun k hk => if_pos hk, (S.tr T2.s).tr (sameX.s ((((sameX.rf.zA (by decide)).zA (by decide)).zA (by decide)).zI (by decide))), ((((B4.uA (by decide)).uA (by decide)).uA (by decide)).uI (by decide))⟩
      refine ⟨by omega, by simp (disch := omega) only [uI_1, uI_2, uA_1, uA_21, uA_22, uA_3, uB_1, uB_21, uB_22, uB_3, uL_1, uL_21, uL_22, zI_1, zI_2, zR_1, zR_21, zR_22, zA_1, zA_21, zA_221, zA_222, zAA_1, zAA_21, zAA_221, zAA_222, zW_1, zW_21, zW_221, zW_2221, zW_2222, zL_1, zL_21, zL_221, zL_2221, zL_22221, zL_22222, va_eq, va_ne], by simp (disch := omega) only [uI_1, uI_2, uA_1, uA_21, uA_22, uA_3, uB_1, uB_21, uB_22, uB_3, uL_1, uL_21, uL_22, zI_1, zI_2, zR_1, zR_21, zR_22, zA_1, zA_21, zA_221, zA_222, zAA_1, zAA_21, zAA_221, zAA_222, zW_1, zW_21, zW_221, zW_2221, zW_2222, zL_1, zL_21, zL_221, zL_2221, zL_22221, zL_22222, va_eq, va_ne], fun k hk => ?_, fun k l hkl hl => ?_, fun s hs hns => ?_, ?_, fun k hk1 hk2 => ?_⟩
      · dsimp only
        simp (disch := omega) only [uI_1, uI_2, uA_1, uA_21, uA_22, uA_3, uB_1, uB_21, uB_22, uB_3, uL_1, uL_21, uL_22, zI_1, zI_2, zR_1, zR_21, zR_22, zA_1, zA_21, zA_221, zA_222, zAA_1, zAA_21, zAA_221, zAA_222, zW_1, zW_21, zW_221, zW_2221, zW_2222, zL_1, zL_21, zL_221, zL_2221, zL_22221, zL_22222, va_eq, va_ne]
        by_cases z : k < N
        · obtain ⟨z1, z2, z3, z4⟩ := d4 k z
          rw [if_pos z, va_ne (by omega), va_ne (by omega)]
          exact ⟨z1, z2, z3, z4⟩
        · rw [if_neg z, show k = N by omega, va_eq, va_eq]
          exact ⟨okc, hv, rfl, rfl⟩
      · dsimp only
        rw [if_pos (show k < N by omega)]
        by_cases z : l < N
        · rw [if_pos z]; exact d5 k l hkl z
        · rw [if_neg z]; exact hnew k (by omega)
      · have h1 : s ≠ w := fun z => by
          have := hns N (by omega)
          dsimp only at this
          rw [if_neg (by omega)] at this
          exact this z.symm
        obtain ⟨z1, z2⟩ := d6 s hs (fun k hk => by
          have := hns k (by omega)
          dsimp only at this
          rw [if_pos hk] at this
          exact this)
        simp (disch := omega) only [uI_1, uI_2, uA_1, uA_21, uA_22, uA_3, uB_1, uB_21, uB_22, uB_3, uL_1, uL_21, uL_22, zI_1, zI_2, zR_1, zR_21, zR_22, zA_1, zA_21, zA_221, zA_222, zAA_1, zAA_21, zAA_221, zAA_222, zW_1, zW_21, zW_221, zW_2221, zW_2222, zL_1, zL_21, zL_221, zL_2221, zL_22221, zL_22222, va_eq, va_ne]
        exact ⟨z1, z2⟩
      · dsimp only
        rw [if_pos (show 0 < N by omega)]
        simp (disch := omega) only [uI_1, uI_2, uA_1, uA_21, uA_22, uA_3, uB_1, uB_21, uB_22, uB_3, uL_1, uL_21, uL_22, zI_1, zI_2, zR_1, zR_21, zR_22, zA_1, zA_21, zA_221, zA_222, zAA_1, zAA_21, zAA_221, zAA_222, zW_1, zW_21, zW_221, zW_2221, zW_2222, zL_1, zL_21, zL_221, zL_2221, zL_22221, zL_22222, va_eq, va_ne]
        have h1 := hnew 0 (by omega)
        rw [va_ne h1, va_ne h1]
        exact d7
      · dsimp only
        simp (disch := omega) only [uI_1, uI_2, uA_1, uA_21, uA_22, uA_3, uB_1, uB_21, uB_22, uB_3, uL_1, uL_21, uL_22, zI_1, zI_2, zR_1, zR_21, zR_22, zA_1, zA_21, zA_221, zA_222, zAA_1, zAA_21, zAA_221, zAA_222, zW_1, zW_21, zW_221, zW_2221, zW_2222, zL_1, zL_21, zL_221, zL_2221, zL_22221, zL_22222, va_eq, va_ne]
        by_cases z : k < N
        · obtain ⟨z1, z2, z3, z4, z5, z6⟩ := d8 k hk1 z
          have h1 := hnew k z
          rw [if_pos z, if_pos z, if_pos z, if_pos (show par k < N by omega), va_ne h1, va_ne h1, va_ne h1, va_ne h1]
          exact ⟨z1, z2, z3, z4, z5, z6⟩
        · have : k = N := by omega
          subst this
          rw [if_neg z, if_neg z, if_neg z, if_pos hi, va_eq, va_eq, va_eq, va_eq]
          exact ⟨hi, aj, by rw [ec], rfl, by rw [ec], rfl⟩
end
