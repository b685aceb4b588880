set_option maxRecDepth 100000
/-! ===== what can be stepped to ===== -/
def okN (r : Row) (an : Nat → Nat) (c k : Nat) : Bool := inH r (mvP c k) && (walkB r (cellN (mvP c k)) && !lfB r an 10 (cellN (mvP c k)))
def tgt (c k : Nat) : Nat := cellN (mvP c k)
def closed (r : Row) (an : Nat → Nat) (U : Nat → Prop) : Prop := ∀ x, x < 100 → U x → ∀ k, k < 4 → okN r an x k = true → U (tgt x k)
def DfsQ (r : Row) (an : Nat → Nat) (sn : Nat → Nat) (c : Nat) (sn' : Nat → Nat) : Prop := (∀ x, sn x = 1 → sn' x = 1) ∧ (∀ x, sn' x ≤ 1) ∧ sn' c = 1 ∧ (∀ x, x < 100 → sn' x = 1 → sn x = 0 → ∀ k, k < 4 → okN r an x k = true → sn' (tgt x k) = 1) ∧ ∀ U, U c → closed r an U → ∀ x, x < 100 → sn' x = 1 → sn x = 0 → U x
theorem sum_le1 {f : Nat → Nat} (h : ∀ x, f x ≤ 1) (N : Nat) : sumN f N ≤ N := by
  have := sumN_le (f := f) (c := 1) N (fun i _ => h i)
  omega
section
variable {n : Nat} {F : Fz} {G : gH} {ho : Nat} {r : Row} {nm : Nat → Int64} {an : Nat → Nat} {p : Int32}
set_option maxHeartbeats 4000000 in
theorem spread_run (Z : FrzX n F G) (H : IsHouse F ho r nm) (ok : okRow r) (O : OW r an p) : ∀ (f : Nat) (sn : Nat → Nat) (c : Nat) (xs : XS), WX 0 ho r an p xs → c < 100 → sn c = 0 → (∀ x, sn x ≤ 1) → (∀ x, x < 100 → xs.2.2.1 40 x = nI (sn x)) → 100 < f + sumN sn 100 → Ok ((N_X1_spread f n (nI c)).1 (mkX n G xs)) (fun v h' => ∃ xs' sn', h' = mkX n G xs' ∧ sameX [] [40] xs xs' ∧ (∀ x, x < 100 → xs'.2.2.1 40 x = nI (sn' x)) ∧ DfsQ r an sn c sn' ∧ ∃ k, v = nI k ∧ sumN sn' 100 = sumN sn 100 + k)
  | 0, sn, c, xs, W, hc, h0, h1, ha, hf => by
    have := sum_le1 h1 100
    omega
  | f + 1, sn, c, xs, W, hc, h0, h1, ha, hf => by
    have hm := ok.2.2.1.2
    have hst := sum_turn (f := sn) (d := c) (v := 1) 100 hc
    unfold N_X1_spread B_X1_spread
    simp (disch := omega) only [x_I1, x_I14, x_I18, x_I19, x_I2, x_I20, x_I24, x_I25, x_I3, x_I31, x_I33, x_I38, x_I39, x_R0, x_R10, x_R12, x_R13, x_R15, x_R16, x_R17, x_R21, x_R22, x_R23, x_R26, x_R27, x_R28, x_R29, x_R30, x_R32, x_R34, x_R35, x_R36, x_R37, x_R4, x_R40, x_R41, x_R43, x_R44, x_R45, x_R5, x_R6, x_R7, x_R8, x_R9, x_chk, x_chk15, x_chk7, x_w0I3, x_w0I4, x_w0I5, x_w0R1, x_w0R2, x_w1I3, x_w1I4, x_w1I5, x_w1R1, x_w1R2, x_sI1, x_sI14, x_sI18, x_sI19, x_sI2, x_sI20, x_sI24, x_sI25, x_sI3, x_sI31, x_sI33, x_sI38, x_sI39, x_sR11, x_sR42, x_w0sI3, x_w0sI4, x_w0sI5, x_w0sR, x_w1sI3, x_w1sI4, x_w1sI5, x_w1sR, x_A1n, x_sA1n, x_A13n, x_sA13n, x_A14n, x_sA14n, x_A21n, x_sA21n, x_A22n, x_sA22n, x_A27n, x_sA27n, x_A28n, x_sA28n, x_A29n, x_sA29n, x_A30n, x_sA30n, x_A31n, x_sA31n, x_A32n, x_sA32n, x_A33n, x_sA33n, x_A34n, x_sA34n, x_A35n, x_sA35n, x_A36n, x_sA36n, x_A37n, x_sA37n, x_A38n, x_sA38n, x_A39n, x_sA39n, x_A40n, x_sA40n, x_A41n, x_sA41n, x_A42n, x_sA42n, x_A43n, x_sA43n, evq_lv, evq_pure, lvM, m_hasn, m_isIn, m_one, m_isHang, x_w0R0e, x_R11e, x_w1R0e, Option.elim_some, Mo.bind_assoc, Mo.pure_bind, Mo.bind_pure, lit, nI_add, nI_mul, nI_subn, le_t, le_f, lt_t, lt_f, eq_t, eq_f, eqm_f, ltz_f, cond_true, cond_false, if_true, if_false]
    have S0 : sameX [] [40] xs (zA xs 40 c (nI 1)) := sameX.rf.zA (by decide)
    have u1 : ∀ x, upN sn c 1 x ≤ 1 := fun x => by
      by_cases z : x = c
      · rw [z, upN_eq]; omega
      · rw [upN_ne z]; exact h1 x
    refine Ok.loopM (S := Int32 × Int32) (E := Int32) (fun q s h' => ∃ k xs' sn' a, k + q = 4 ∧ s = (nI a, nI k) ∧ h' = mkX n G xs' ∧ sameX [] [40] xs xs' ∧ (∀ x, x < 100 → xs'.2.2.1 40 x = nI (sn' x)) ∧ (∀ x, sn' x ≤ 1) ∧ (∀ x, sn x = 1 → sn' x = 1) ∧ sn' c = 1 ∧ sumN sn' 100 = sumN sn 100 + a ∧ 1 ≤ a ∧ (∀ x, x < 100 → sn' x = 1 → sn x = 0 → x ≠ c → ∀ k, k < 4 → okN r an x k = true → sn' (tgt x k) = 1) ∧ (∀ j, j < k → okN r an c j = true → sn' (tgt c j) = 1) ∧ ∀ U, U c → closed r an U → ∀ x, x < 100 → sn' x = 1 → sn x = 0 → U x) (fun q s h' hI => ?_) 4 _ _ ⟨0, _, upN sn c 1, 1, by omega, rfl, rfl, S0, fun x hx => ?_, u1, fun x hx => ?_, upN_eq, by omega, by omega, fun x hx h2 h3 h4 => ?_, fun j hj => by omega, fun U hU hcl x hx h2 h3 => ?_⟩
    · obtain ⟨k, xs1, sn1, a, hk, rfl, rfl, S1, g1, g2, g3, g4, g5, g6, g7, g8, g9⟩ := hI
      have W1 : WX 0 ho r an p xs1 := ⟨by rw [S1.2.1]; exact W.1, by rw [S1.2.2.1 _ (by decide)]; exact W.2.1, by rw [S1.2.2.1 _ (by decide)]; exact W.2.2.1, by rw [S1.2.2.2]; exact W.2.2.2⟩
      have w1 : xs1.2.1 200 = some ho := W1.1
      dsimp only
      by_cases h4 : k < 4
      · obtain ⟨b1, b2, b3, b4⟩ := mvP_b hc h4
        have ei := inH_isCell ok (x := (mvP c k).1) (y := (mvP c k).2) ⟨b1, b2⟩ ⟨b3, b4⟩
        have ex : nI (c - c / 10 * 10) + iZ (stX k) = iZ (mvP c k).1 := by
          rw [iZ_nat, iZ_add]; exact congrArg iZ (by unfold mvP; dsimp only; omega)
        have ey : nI (c / 10) + iZ (stY k) = iZ (mvP c k).2 := by
          rw [iZ_nat, iZ_add]; exact congrArg iZ (by unfold mvP; dsimp only)
        have skip : (okN r an c k = true → sn1 (tgt c k) = 1) → ∃ q', q' < q ∧ ∃ k2 xs' sn' a2, k2 + q' = 4 ∧ ((nI a, nI (k + 1)) : Int32 × Int32) = (nI a2, nI k2) ∧ mkX n G xs1 = mkX n G xs' ∧ sameX [] [40] xs xs' ∧ (∀ x, x < 100 → xs'.2.2.1 40 x = nI (sn' x)) ∧ (∀ x, sn' x ≤ 1) ∧ (∀ x, sn x = 1 → sn' x = 1) ∧ sn' c = 1 ∧ sumN sn' 100 = sumN sn 100 + a2 ∧ 1 ≤ a2 ∧ (∀ x, x < 100 → sn' x = 1 → sn x = 0 → x ≠ c → ∀ k, k < 4 → okN r an x k = true → sn' (tgt x k) = 1) ∧ (∀ j, j < k2 → okN r an c j = true → sn' (tgt c j) = 1) ∧ ∀ U, U c → closed r an U → ∀ x, x < 100 → sn' x = 1 → sn x = 0 → U x := fun hs => ⟨q - 1, by omega, k + 1, xs1, sn1, a, by omega, rfl, rfl, S1, g1, g2, g3, g4, g5, g6, g7, fun j hj => by
          by_cases z : j = k
          · rw [z]; exact hs
          · exact g8 j (by omega), g9⟩
        cases hin : inH r (mvP c k) with
        | false =>
          have ei' : isCellB r (iZ (mvP c k).1) (iZ (mvP c k).2) = false := ei.trans hin
          simp (disch := omega) only [x_I1, x_I14, x_I18, x_I19, x_I2, x_I20, x_I24, x_I25, x_I3, x_I31, x_I33, x_I38, x_I39, x_R0, x_R10, x_R12, x_R13, x_R15, x_R16, x_R17, x_R21, x_R22, x_R23, x_R26, x_R27, x_R28, x_R29, x_R30, x_R32, x_R34, x_R35, x_R36, x_R37, x_R4, x_R40, x_R41, x_R43, x_R44, x_R45, x_R5, x_R6, x_R7, x_R8, x_R9, x_chk, x_chk15, x_chk7, x_w0I3, x_w0I4, x_w0I5, x_w0R1, x_w0R2, x_w1I3, x_w1I4, x_w1I5, x_w1R1, x_w1R2, x_sI1, x_sI14, x_sI18, x_sI19, x_sI2, x_sI20, x_sI24, x_sI25, x_sI3, x_sI31, x_sI33, x_sI38, x_sI39, x_sR11, x_sR42, x_w0sI3, x_w0sI4, x_w0sI5, x_w0sR, x_w1sI3, x_w1sI4, x_w1sI5, x_w1sR, x_A1n, x_sA1n, x_A13n, x_sA13n, x_A14n, x_sA14n, x_A21n, x_sA21n, x_A22n, x_sA22n, x_A27n, x_sA27n, x_A28n, x_sA28n, x_A29n, x_sA29n, x_A30n, x_sA30n, x_A31n, x_sA31n, x_A32n, x_sA32n, x_A33n, x_sA33n, x_A34n, x_sA34n, x_A35n, x_sA35n, x_A36n, x_sA36n, x_A37n, x_sA37n, x_A38n, x_sA38n, x_A39n, x_sA39n, x_A40n, x_sA40n, x_A41n, x_sA41n, x_A42n, x_sA42n, x_A43n, x_sA43n, evq_lv, evq_pure, lvM, m_hasn, m_isIn, m_one, m_isHang, x_w0R0e, x_R11e, x_w1R0e, Option.elim_some, Mo.bind_assoc, Mo.pure_bind, Mo.bind_pure, lit, nI_add, nI_mul, nI_subn, le_t, le_f, lt_t, lt_f, eq_t, eq_f, eqm_f, ltz_f, cond_true, cond_false, if_true, if_false, m_stX h4, m_stY h4, nI_divn, ex, ey, w1, m_isCell (Z _) H, ei']
          exact Ok.pM (skip (fun z => by unfold okN at z; rw [hin] at z; cases z))
        | true =>
          have ei' : isCellB r (iZ (mvP c k).1) (iZ (mvP c k).2) = true := ei.trans hin
          obtain ⟨i1, i2, i3, i4, i5, i6⟩ := inH_cell ok hin
          have ec : nI 10 * iZ (mvP c k).2 + iZ (mvP c k).1 = nI (tgt c k) := by unfold tgt; rw [i2, i3, i4, nI_mul, nI_add]
          have op := isOpen_run (Z xs1) H ok i5 i6
          rw [← i4] at op
          have il : (M_X3_isLeaf (n + 7) (nI (tgt c k)) (-nI 1)).1 (mkX n G xs1) = some (lfB r an 10 (tgt c k), mkX n G xs1) := isLeaf_run Z H ok (j := 0) (by decide) W1 O (c := tgt c k) (but := 10) i1 (b := -nI 1) (fun e he => ⟨fun z => absurd z (nI_ne_neg (by omega)), fun z => by omega⟩)
          have hokN : okN r an c k = (walkB r (tgt c k) && !lfB r an 10 (tgt c k)) := by unfold okN tgt; rw [hin]; rfl
          have op' : (M_X4_isOpen ho (nI (tgt c k))).1 (mkX n G xs1) = some (walkB r (tgt c k), mkX n G xs1) := op
          have t100 : tgt c k < 100 := i1
          cases hw : walkB r (tgt c k) with
          | false =>
            rw [hw] at op'
            simp (disch := omega) only [x_I1, x_I14, x_I18, x_I19, x_I2, x_I20, x_I24, x_I25, x_I3, x_I31, x_I33, x_I38, x_I39, x_R0, x_R10, x_R12, x_R13, x_R15, x_R16, x_R17, x_R21, x_R22, x_R23, x_R26, x_R27, x_R28, x_R29, x_R30, x_R32, x_R34, x_R35, x_R36, x_R37, x_R4, x_R40, x_R41, x_R43, x_R44, x_R45, x_R5, x_R6, x_R7, x_R8, x_R9, x_chk, x_chk15, x_chk7, x_w0I3, x_w0I4, x_w0I5, x_w0R1, x_w0R2, x_w1I3, x_w1I4, x_w1I5, x_w1R1, x_w1R2, x_sI1, x_sI14, x_sI18, x_sI19, x_sI2, x_sI20, x_sI24, x_sI25, x_sI3, x_sI31, x_sI33, x_sI38, x_sI39, x_sR11, x_sR42, x_w0sI3, x_w0sI4, x_w0sI5, x_w0sR, x_w1sI3, x_w1sI4, x_w1sI5, x_w1sR, x_A1n, x_sA1n, x_A13n, x_sA13n, x_A14n, x_sA14n, x_A21n, x_sA21n, x_A22n, x_sA22n, x_A27n, x_sA27n, x_A28n, x_sA28n, x_A29n, x_sA29n, x_A30n, x_sA30n, x_A31n, x_sA31n, x_A32n, x_sA32n, x_A33n, x_sA33n, x_A34n, x_sA34n, x_A35n, x_sA35n, x_A36n, x_sA36n, x_A37n, x_sA37n, x_A38n, x_sA38n, x_A39n, x_sA39n, x_A40n, x_sA40n, x_A41n, x_sA41n, x_A42n, x_sA42n, x_A43n, x_sA43n, evq_lv, evq_pure, lvM, m_hasn, m_isIn, m_one, m_isHang, x_w0R0e, x_R11e, x_w1R0e, Option.elim_some, Mo.bind_assoc, Mo.pure_bind, Mo.bind_pure, lit, nI_add, nI_mul, nI_subn, le_t, le_f, lt_t, lt_f, eq_t, eq_f, eqm_f, ltz_f, cond_true, cond_false, if_true, if_false, m_stX h4, m_stY h4, nI_divn, ex, ey, w1, m_isCell (Z _) H, ei', ec, ev_call op']
            exact Ok.pM (skip (fun z => by rw [hokN, hw] at z; cases z))
          | true =>
            rw [hw] at op'
            by_cases hs : sn1 (tgt c k) = 0
            · have a40 : xs1.2.2.1 40 (tgt c k) = nI 0 := by rw [g1 _ t100, hs]
              cases hlf : lfB r an 10 (tgt c k) with
              | true =>
                rw [hlf] at il
                simp (disch := omega) only [x_I1, x_I14, x_I18, x_I19, x_I2, x_I20, x_I24, x_I25, x_I3, x_I31, x_I33, x_I38, x_I39, x_R0, x_R10, x_R12, x_R13, x_R15, x_R16, x_R17, x_R21, x_R22, x_R23, x_R26, x_R27, x_R28, x_R29, x_R30, x_R32, x_R34, x_R35, x_R36, x_R37, x_R4, x_R40, x_R41, x_R43, x_R44, x_R45, x_R5, x_R6, x_R7, x_R8, x_R9, x_chk, x_chk15, x_chk7, x_w0I3, x_w0I4, x_w0I5, x_w0R1, x_w0R2, x_w1I3, x_w1I4, x_w1I5, x_w1R1, x_w1R2, x_sI1, x_sI14, x_sI18, x_sI19, x_sI2, x_sI20, x_sI24, x_sI25, x_sI3, x_sI31, x_sI33, x_sI38, x_sI39, x_sR11, x_sR42, x_w0sI3, x_w0sI4, x_w0sI5, x_w0sR, x_w1sI3, x_w1sI4, x_w1sI5, x_w1sR, x_A1n, x_sA1n, x_A13n, x_sA13n, x_A14n, x_sA14n, x_A21n, x_sA21n, x_A22n, x_sA22n, x_A27n, x_sA27n, x_A28n, x_sA28n, x_A29n, x_sA29n, x_A30n, x_sA30n, x_A31n, x_sA31n, x_A32n, x_sA32n, x_A33n, x_sA33n, x_A34n, x_sA34n, x_A35n, x_sA35n, x_A36n, x_sA36n, x_A37n, x_sA37n, x_A38n, x_sA38n, x_A39n, x_sA39n, x_A40n, x_sA40n, x_A41n, x_sA41n, x_A42n, x_sA42n, x_A43n, x_sA43n, evq_lv, evq_pure, lvM, m_hasn, m_isIn, m_one, m_isHang, x_w0R0e, x_R11e, x_w1R0e, Option.elim_some, Mo.bind_assoc, Mo.pure_bind, Mo.bind_pure, lit, nI_add, nI_mul, nI_subn, le_t, le_f, lt_t, lt_f, eq_t, eq_f, eqm_f, ltz_f, cond_true, cond_false, if_true, if_false, m_stX h4, m_stY h4, nI_divn, ex, ey, w1, m_isCell (Z _) H, ei', ec, ev_call op', a40, ev_call il]
                exact Ok.pM (skip (fun z => by rw [hokN, hw, hlf] at z; cases z))
              | false =>
                rw [hlf] at il
                simp (disch := omega) only [x_I1, x_I14, x_I18, x_I19, x_I2, x_I20, x_I24, x_I25, x_I3, x_I31, x_I33, x_I38, x_I39, x_R0, x_R10, x_R12, x_R13, x_R15, x_R16, x_R17, x_R21, x_R22, x_R23, x_R26, x_R27, x_R28, x_R29, x_R30, x_R32, x_R34, x_R35, x_R36, x_R37, x_R4, x_R40, x_R41, x_R43, x_R44, x_R45, x_R5, x_R6, x_R7, x_R8, x_R9, x_chk, x_chk15, x_chk7, x_w0I3, x_w0I4, x_w0I5, x_w0R1, x_w0R2, x_w1I3, x_w1I4, x_w1I5, x_w1R1, x_w1R2, x_sI1, x_sI14, x_sI18, x_sI19, x_sI2, x_sI20, x_sI24, x_sI25, x_sI3, x_sI31, x_sI33, x_sI38, x_sI39, x_sR11, x_sR42, x_w0sI3, x_w0sI4, x_w0sI5, x_w0sR, x_w1sI3, x_w1sI4, x_w1sI5, x_w1sR, x_A1n, x_sA1n, x_A13n, x_sA13n, x_A14n, x_sA14n, x_A21n, x_sA21n, x_A22n, x_sA22n, x_A27n, x_sA27n, x_A28n, x_sA28n, x_A29n, x_sA29n, x_A30n, x_sA30n, x_A31n, x_sA31n, x_A32n, x_sA32n, x_A33n, x_sA33n, x_A34n, x_sA34n, x_A35n, x_sA35n, x_A36n, x_sA36n, x_A37n, x_sA37n, x_A38n, x_sA38n, x_A39n, x_sA39n, x_A40n, x_sA40n, x_A41n, x_sA41n, x_A42n, x_sA42n, x_A43n, x_sA43n, evq_lv, evq_pure, lvM, m_hasn, m_isIn, m_one, m_isHang, x_w0R0e, x_R11e, x_w1R0e, Option.elim_some, Mo.bind_assoc, Mo.pure_bind, Mo.bind_pure, lit, nI_add, nI_mul, nI_subn, le_t, le_f, lt_t, lt_f, eq_t, eq_f, eqm_f, ltz_f, cond_true, cond_false, if_true, if_false, m_stX h4, m_stY h4, nI_divn, ex, ey, w1, m_isCell (Z _) H, ei', ec, ev_call op', a40, ev_call il]
                refine Ok.bM (spread_run Z H ok O f sn1 (tgt c k) xs1 W1 t100 hs g2 g1 (by omega)) fun v h2 ⟨xs2, sn2, y1, S2, y2, ⟨d1, d2, d3, d4, d5⟩, a2, y4, y5⟩ => ?_
                subst y1 y4
                have hok : okN r an c k = true := by rw [hokN, hw, hlf]; rfl
                simp (disch := omega) only [x_I1, x_I14, x_I18, x_I19, x_I2, x_I20, x_I24, x_I25, x_I3, x_I31, x_I33, x_I38, x_I39, x_R0, x_R10, x_R12, x_R13, x_R15, x_R16, x_R17, x_R21, x_R22, x_R23, x_R26, x_R27, x_R28, x_R29, x_R30, x_R32, x_R34, x_R35, x_R36, x_R37, x_R4, x_R40, x_R41, x_R43, x_R44, x_R45, x_R5, x_R6, x_R7, x_R8, x_R9, x_chk, x_chk15, x_chk7, x_w0I3, x_w0I4, x_w0I5, x_w0R1, x_w0R2, x_w1I3, x_w1I4, x_w1I5, x_w1R1, x_w1R2, x_sI1, x_sI14, x_sI18, x_sI19, x_sI2, x_sI20, x_sI24, x_sI25, x_sI3, x_sI31, x_sI33, x_sI38, x_sI39, x_sR11, x_sR42, x_w0sI3, x_w0sI4, x_w0sI5, x_w0sR, x_w1sI3, x_w1sI4, x_w1sI5, x_w1sR, x_A1n, x_sA1n, x_A13n, x_sA13n, x_A14n, x_sA14n, x_A21n, x_sA21n, x_A22n, x_sA22n, x_A27n, x_sA27n, x_A28n, x_sA28n, x_A29n, x_sA29n, x_A30n, x_sA30n, x_A31n, x_sA31n, x_A32n, x_sA32n, x_A33n, x_sA33n, x_A34n, x_sA34n, x_A35n, x_sA35n, x_A36n, x_sA36n, x_A37n, x_sA37n, x_A38n, x_sA38n, x_A39n, x_sA39n, x_A40n, x_sA40n, x_A41n, x_sA41n, x_A42n, x_sA42n, x_A43n, x_sA43n, evq_lv, evq_pure, lvM, m_hasn, m_isIn, m_one, m_isHang, x_w0R0e, x_R11e, x_w1R0e, Option.elim_some, Mo.bind_assoc, Mo.pure_bind, Mo.bind_pure, lit, nI_add, nI_mul, nI_subn, le_t, le_f, lt_t, lt_f, eq_t, eq_f, eqm_f, ltz_f, cond_true, cond_false, if_true, if_false]
                refine Ok.pM ⟨q - 1, by omega, k + 1, xs2, sn2, a + a2, by omega, rfl, rfl, S1.tr S2, y2, d2, fun x hx => d1 x (g3 x hx), d1 c g4, by omega, by omega, fun x hx h2 h3 h4 l hl hol => ?_, fun l hl hol => ?_, fun U hU hcl x hx h2 h3 => ?_⟩
                · by_cases z : sn1 x = 0
                  · exact d4 x hx h2 z l hl hol
                  · have z1 : sn1 x = 1 := by have := g2 x; omega
                    exact d1 _ (g7 x hx z1 h3 h4 l hl hol)
                · by_cases z : l = k
                  · rw [z]; exact d3
                  · exact d1 _ (g8 l (by omega) hol)
                · by_cases z : sn1 x = 0
                  · exact d5 U (hcl c hc hU k h4 hok) hcl x hx h2 z
                  · have z1 : sn1 x = 1 := by have := g2 x; omega
                    exact g9 U hU hcl x hx z1 h3
            · have hs1 : sn1 (tgt c k) = 1 := by have := g2 (tgt c k); omega
              have a40 : xs1.2.2.1 40 (tgt c k) = nI 1 := by rw [g1 _ t100, hs1]
              simp (disch := omega) only [x_I1, x_I14, x_I18, x_I19, x_I2, x_I20, x_I24, x_I25, x_I3, x_I31, x_I33, x_I38, x_I39, x_R0, x_R10, x_R12, x_R13, x_R15, x_R16, x_R17, x_R21, x_R22, x_R23, x_R26, x_R27, x_R28, x_R29, x_R30, x_R32, x_R34, x_R35, x_R36, x_R37, x_R4, x_R40, x_R41, x_R43, x_R44, x_R45, x_R5, x_R6, x_R7, x_R8, x_R9, x_chk, x_chk15, x_chk7, x_w0I3, x_w0I4, x_w0I5, x_w0R1, x_w0R2, x_w1I3, x_w1I4, x_w1I5, x_w1R1, x_w1R2, x_sI1, x_sI14, x_sI18, x_sI19, x_sI2, x_sI20, x_sI24, x_sI25, x_sI3, x_sI31, x_sI33, x_sI38, x_sI39, x_sR11, x_sR42, x_w0sI3, x_w0sI4, x_w0sI5, x_w0sR, x_w1sI3, x_w1sI4, x_w1sI5, x_w1sR, x_A1n, x_sA1n, x_A13n, x_sA13n, x_A14n, x_sA14n, x_A21n, x_sA21n, x_A22n, x_sA22n, x_A27n, x_sA27n, x_A28n, x_sA28n, x_A29n, x_sA29n, x_A30n, x_sA30n, x_A31n, x_sA31n, x_A32n, x_sA32n, x_A33n, x_sA33n, x_A34n, x_sA34n, x_A35n, x_sA35n, x_A36n, x_sA36n, x_A37n, x_sA37n, x_A38n, x_sA38n, x_A39n, x_sA39n, x_A40n, x_sA40n, x_A41n, x_sA41n, x_A42n, x_sA42n, x_A43n, x_sA43n, evq_lv, evq_pure, lvM, m_hasn, m_isIn, m_one, m_isHang, x_w0R0e, x_R11e, x_w1R0e, Option.elim_some, Mo.bind_assoc, Mo.pure_bind, Mo.bind_pure, lit, nI_add, nI_mul, nI_subn, le_t, le_f, lt_t, lt_f, eq_t, eq_f, eqm_f, ltz_f, cond_true, cond_false, if_true, if_false, m_stX h4, m_stY h4, nI_divn, ex, ey, w1, m_isCell (Z _) H, ei', ec, ev_call op', a40]
              exact Ok.pM (skip (fun _ => hs1))
      · have : k = 4 := by omega
        subst this
        simp (disch := omega) only [x_I1, x_I14, x_I18, x_I19, x_I2, x_I20, x_I24, x_I25, x_I3, x_I31, x_I33, x_I38, x_I39, x_R0, x_R10, x_R12, x_R13, x_R15, x_R16, x_R17, x_R21, x_R22, x_R23, x_R26, x_R27, x_R28, x_R29, x_R30, x_R32, x_R34, x_R35, x_R36, x_R37, x_R4, x_R40, x_R41, x_R43, x_R44, x_R45, x_R5, x_R6, x_R7, x_R8, x_R9, x_chk, x_chk15, x_chk7, x_w0I3, x_w0I4, x_w0I5, x_w0R1, x_w0R2, x_w1I3, x_w1I4, x_w1I5, x_w1R1, x_w1R2, x_sI1, x_sI14, x_sI18, x_sI19, x_sI2, x_sI20, x_sI24, x_sI25, x_sI3, x_sI31, x_sI33, x_sI38, x_sI39, x_sR11, x_sR42, x_w0sI3, x_w0sI4, x_w0sI5, x_w0sR, x_w1sI3, x_w1sI4, x_w1sI5, x_w1sR, x_A1n, x_sA1n, x_A13n, x_sA13n, x_A14n, x_sA14n, x_A21n, x_sA21n, x_A22n, x_sA22n, x_A27n, x_sA27n, x_A28n, x_sA28n, x_A29n, x_sA29n, x_A30n, x_sA30n, x_A31n, x_sA31n, x_A32n, x_sA32n, x_A33n, x_sA33n, x_A34n, x_sA34n, x_A35n, x_sA35n, x_A36n, x_sA36n, x_A37n, x_sA37n, x_A38n, x_sA38n, x_A39n, x_sA39n, x_A40n, x_sA40n, x_A41n, x_sA41n, x_A42n, x_sA42n, x_A43n, x_sA43n, evq_lv, evq_pure, lvM, m_hasn, m_isIn, m_one, m_isHang, x_w0R0e, x_R11e, x_w1R0e, Option.elim_some, Mo.bind_assoc, Mo.pure_bind, Mo.bind_pure, lit, nI_add, nI_mul, nI_subn, le_t, le_f, lt_t, lt_f, eq_t, eq_f, eqm_f, ltz_f, cond_true, cond_false, if_true, if_false]
        refine Ok.pM ⟨xs1, sn1, rfl, S1, g1, ⟨g3, g2, g4, fun x hx h2 h3 l hl hol => ?_, g9⟩, a, rfl, g5⟩
        by_cases z : x = c
        · rw [z] at hol ⊢; exact g8 l hl hol
        · exact g7 x hx h2 h3 z l hl hol
    · rw [zA_221, va_eq]
      by_cases z : x = c
      · rw [z, va_eq, upN_eq]
      · rw [va_ne z, upN_ne z]; exact ha x hx
    · by_cases z : x = c
      · rw [z, upN_eq]
      · rw [upN_ne z]; exact hx
    · rw [upN_ne h4] at h2; omega
    · by_cases z : x = c
      · rw [z]; exact hU
      · rw [upN_ne z] at h2; omega
end
