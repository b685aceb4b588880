set_option maxRecDepth 100000
theorem op_23 {n : Nat} {h : gH} (R : Rel n h) (a : Nat → Int32) : OpOk n h (LS_23 n (n + 50) (n + 83) a) := by
  obtain ⟨F, g, xs, ms, rfl, R⟩ := R
  obtain ⟨ho, dy, r, m1, hl, R1, hr, hb, Z, e1, e2, hA, -⟩ := R.sit
  have hA0 := hA
  obtain ⟨hH, ok, -⟩ := hA0
  have hm := ok.2.2.1.2
  have c10 := ok.1.2
  have r10 := ok.2.1.2
  obtain ⟨an, W, O, ha⟩ := RelC.walk hA e1
  refine OpOk.two ?_
  unfold M_X1_stand M_X10_stand
  simp (disch := omega) only [x_I1, x_I14, x_I18, x_I19, x_I2, x_I20, x_I24, x_I25, x_I3, x_I31, x_I33, x_I38, x_I39, x_R0, x_R10, x_R12, x_R13, x_R15, x_R16, x_R17, x_R21, x_R22, x_R23, x_R26, x_R27, x_R28, x_R29, x_R30, x_R32, x_R34, x_R35, x_R36, x_R37, x_R4, x_R40, x_R41, x_R43, x_R44, x_R45, x_R5, x_R6, x_R7, x_R8, x_R9, x_chk, x_chk15, x_chk7, x_w0I3, x_w0I4, x_w0I5, x_w0R1, x_w0R2, x_w1I3, x_w1I4, x_w1I5, x_w1R1, x_w1R2, x_sI1, x_sI14, x_sI18, x_sI19, x_sI2, x_sI20, x_sI24, x_sI25, x_sI3, x_sI31, x_sI33, x_sI38, x_sI39, x_sR11, x_sR42, x_w0sI3, x_w0sI4, x_w0sI5, x_w0sR, x_w1sI3, x_w1sI4, x_w1sI5, x_w1sR, x_A1n, x_sA1n, x_A13n, x_sA13n, x_A14n, x_sA14n, x_A21n, x_sA21n, x_A22n, x_sA22n, x_A27n, x_sA27n, x_A28n, x_sA28n, x_A29n, x_sA29n, x_A30n, x_sA30n, x_A31n, x_sA31n, x_A32n, x_sA32n, x_A33n, x_sA33n, x_A34n, x_sA34n, x_A35n, x_sA35n, x_A36n, x_sA36n, x_A37n, x_sA37n, x_A38n, x_sA38n, x_A39n, x_sA39n, x_A40n, x_sA40n, x_A41n, x_sA41n, x_A42n, x_sA42n, x_A43n, x_sA43n, evq_lv, evq_pure, lvM, m_hasn, m_isIn, m_one, m_isHang, x_w0R0e, x_R11e, x_w1R0e, Option.elim_some, Mo.bind_assoc, Mo.pure_bind, Mo.bind_pure, lit, nI_add, nI_mul, nI_subn, le_t, le_f, lt_t, lt_f, eq_t, eq_f, eqm_f, ltz_f, cond_true, cond_false, if_true, if_false, tq_I, tq_L, tq_sI, tq_sL, tq_lv, tq_pure, lvT, TM.bind_assoc, TM.pure_bind, TM.bind_pure, te_An, te_Bn, te_sAn, te_sBn, t_doors, t_hasn, t_isIn, t_of0, t_of1, t_of2, t_of3, t_of4, t_of5, t_of6, t_of7, lit, nI_add, nI_mul, nI_subn, le_t, le_f, lt_t, lt_f, eq_t, eq_f, eqm_f, ltz_f, cond_true, cond_false, if_true, if_false, e1, m_isCell (Z _) hH]
  refine Two.r (takeNow_run ok hl hr O ha) fun _ m2 ⟨V, s46, a43, B⟩ => ?_
  have R2 := R1.sm B (by decide) (by decide) (by decide)
  have no : Two ((Mo.pure false).1 (mkX n (mkM (n + 50) g ms) xs)) (TM.pure false m2) (fun a h b m' => a = b ∧ ∃ F' g' xs', h = mkX n (mkM (n + 50) g' ms) xs' ∧ RelC n F' g' xs' m' ∧ g'.2.1 ≤ g.2.1 + 9000 ∧ g'.2.2 ≤ g.2.2 + 100000) := Two.pp ⟨rfl, F, g, xs, rfl, R2, by omega, by omega⟩
  cases hc : isCellB r (a 1) (a 2) with
  | false =>
    have wk : M_X10_isWalked (a 1) (a 2) m2 = some (false, m2) := by
      unfold M_X10_isWalked
      simp (disch := omega) only [tq_I, tq_L, tq_sI, tq_sL, tq_lv, tq_pure, lvT, TM.bind_assoc, TM.pure_bind, TM.bind_pure, te_An, te_Bn, te_sAn, te_sBn, t_doors, t_hasn, t_isIn, t_of0, t_of1, t_of2, t_of3, t_of4, t_of5, t_of6, t_of7, lit, nI_add, nI_mul, nI_subn, le_t, le_f, lt_t, lt_f, eq_t, eq_f, eqm_f, ltz_f, cond_true, cond_false, if_true, if_false, t_isCell ok V.1, hc]
      rfl
    simp (disch := omega) only [x_I1, x_I14, x_I18, x_I19, x_I2, x_I20, x_I24, x_I25, x_I3, x_I31, x_I33, x_I38, x_I39, x_R0, x_R10, x_R12, x_R13, x_R15, x_R16, x_R17, x_R21, x_R22, x_R23, x_R26, x_R27, x_R28, x_R29, x_R30, x_R32, x_R34, x_R35, x_R36, x_R37, x_R4, x_R40, x_R41, x_R43, x_R44, x_R45, x_R5, x_R6, x_R7, x_R8, x_R9, x_chk, x_chk15, x_chk7, x_w0I3, x_w0I4, x_w0I5, x_w0R1, x_w0R2, x_w1I3, x_w1I4, x_w1I5, x_w1R1, x_w1R2, x_sI1, x_sI14, x_sI18, x_sI19, x_sI2, x_sI20, x_sI24, x_sI25, x_sI3, x_sI31, x_sI33, x_sI38, x_sI39, x_sR11, x_sR42, x_w0sI3, x_w0sI4, x_w0sI5, x_w0sR, x_w1sI3, x_w1sI4, x_w1sI5, x_w1sR, x_A1n, x_sA1n, x_A13n, x_sA13n, x_A14n, x_sA14n, x_A21n, x_sA21n, x_A22n, x_sA22n, x_A27n, x_sA27n, x_A28n, x_sA28n, x_A29n, x_sA29n, x_A30n, x_sA30n, x_A31n, x_sA31n, x_A32n, x_sA32n, x_A33n, x_sA33n, x_A34n, x_sA34n, x_A35n, x_sA35n, x_A36n, x_sA36n, x_A37n, x_sA37n, x_A38n, x_sA38n, x_A39n, x_sA39n, x_A40n, x_sA40n, x_A41n, x_sA41n, x_A42n, x_sA42n, x_A43n, x_sA43n, evq_lv, evq_pure, lvM, m_hasn, m_isIn, m_one, m_isHang, x_w0R0e, x_R11e, x_w1R0e, Option.elim_some, Mo.bind_assoc, Mo.pure_bind, Mo.bind_pure, lit, nI_add, nI_mul, nI_subn, le_t, le_f, lt_t, lt_f, eq_t, eq_f, eqm_f, ltz_f, cond_true, cond_false, if_true, if_false, tq_I, tq_L, tq_sI, tq_sL, tq_lv, tq_pure, lvT, TM.bind_assoc, TM.pure_bind, TM.bind_pure, te_An, te_Bn, te_sAn, te_sBn, t_doors, t_hasn, t_isIn, t_of0, t_of1, t_of2, t_of3, t_of4, t_of5, t_of6, t_of7, lit, nI_add, nI_mul, nI_subn, le_t, le_f, lt_t, lt_f, eq_t, eq_f, eqm_f, ltz_f, cond_true, cond_false, if_true, if_false, t_of wk]
    exact no
  | true =>
    obtain ⟨p1, p2, p3, p4⟩ := (isCellB_iff ok).mp hc
    generalize hx : (a 1).toNatClampNeg = x at p1 p3
    generalize hy : (a 2).toNatClampNeg = y at p2 p4
    have hc100 : 10 * y + x < 100 := by omega
    have hin : inH r ((x : Int), (y : Int)) = true := by
      unfold inH
      simp only [Bool.and_eq_true, decide_eq_true_eq]
      omega
    have hcell : cellN ((x : Int), (y : Int)) = 10 * y + x := by unfold cellN; dsimp only; omega
    have wk := isWalked_run ok V.1 (q := ((x : Int), (y : Int))) ⟨by dsimp only; omega, by dsimp only; omega⟩ ⟨by dsimp only; omega, by dsimp only; omega⟩
    rw [hin, hcell, Bool.true_and] at wk
    have ex : iZ (((x : Int), (y : Int)) : Int × Int).1 = nI x := (iZ_nat x).symm
    have ey : iZ (((x : Int), (y : Int)) : Int × Int).2 = nI y := (iZ_nat y).symm
    rw [ex, ey] at wk
    have op := isOpen_run (Z xs) hH ok p3 p4
    have il : (M_X3_isLeaf (n + 7) (nI (10 * y + x)) (-nI 1)).1 (mkX n (mkM (n + 50) g ms) xs) = some (lfB r an 10 (10 * y + x), mkX n (mkM (n + 50) g ms) xs) := isLeaf_run Z hH ok (j := 0) (by decide) W O (c := 10 * y + x) (but := 10) hc100 (b := -nI 1) (fun e he => ⟨fun z => absurd z (nI_ne_neg (by omega)), fun z => by omega⟩)
    have l0 := LO_zero V.2.2.2 hm hc100
    rw [p1, p2]
    cases hw : walkB r (10 * y + x) with
    | false =>
      rw [hw] at wk op
      simp (disch := omega) only [x_I1, x_I14, x_I18, x_I19, x_I2, x_I20, x_I24, x_I25, x_I3, x_I31, x_I33, x_I38, x_I39, x_R0, x_R10, x_R12, x_R13, x_R15, x_R16, x_R17, x_R21, x_R22, x_R23, x_R26, x_R27, x_R28, x_R29, x_R30, x_R32, x_R34, x_R35, x_R36, x_R37, x_R4, x_R40, x_R41, x_R43, x_R44, x_R45, x_R5, x_R6, x_R7, x_R8, x_R9, x_chk, x_chk15, x_chk7, x_w0I3, x_w0I4, x_w0I5, x_w0R1, x_w0R2, x_w1I3, x_w1I4, x_w1I5, x_w1R1, x_w1R2, x_sI1, x_sI14, x_sI18, x_sI19, x_sI2, x_sI20, x_sI24, x_sI25, x_sI3, x_sI31, x_sI33, x_sI38, x_sI39, x_sR11, x_sR42, x_w0sI3, x_w0sI4, x_w0sI5, x_w0sR, x_w1sI3, x_w1sI4, x_w1sI5, x_w1sR, x_A1n, x_sA1n, x_A13n, x_sA13n, x_A14n, x_sA14n, x_A21n, x_sA21n, x_A22n, x_sA22n, x_A27n, x_sA27n, x_A28n, x_sA28n, x_A29n, x_sA29n, x_A30n, x_sA30n, x_A31n, x_sA31n, x_A32n, x_sA32n, x_A33n, x_sA33n, x_A34n, x_sA34n, x_A35n, x_sA35n, x_A36n, x_sA36n, x_A37n, x_sA37n, x_A38n, x_sA38n, x_A39n, x_sA39n, x_A40n, x_sA40n, x_A41n, x_sA41n, x_A42n, x_sA42n, x_A43n, x_sA43n, evq_lv, evq_pure, lvM, m_hasn, m_isIn, m_one, m_isHang, x_w0R0e, x_R11e, x_w1R0e, Option.elim_some, Mo.bind_assoc, Mo.pure_bind, Mo.bind_pure, lit, nI_add, nI_mul, nI_subn, le_t, le_f, lt_t, lt_f, eq_t, eq_f, eqm_f, ltz_f, cond_true, cond_false, if_true, if_false, tq_I, tq_L, tq_sI, tq_sL, tq_lv, tq_pure, lvT, TM.bind_assoc, TM.pure_bind, TM.bind_pure, te_An, te_Bn, te_sAn, te_sBn, t_doors, t_hasn, t_isIn, t_of0, t_of1, t_of2, t_of3, t_of4, t_of5, t_of6, t_of7, lit, nI_add, nI_mul, nI_subn, le_t, le_f, lt_t, lt_f, eq_t, eq_f, eqm_f, ltz_f, cond_true, cond_false, if_true, if_false, t_of wk, e1, ev_call op]
      exact no
    | true =>
      rw [hw] at wk op
      cases hf : lfB r an 10 (10 * y + x) with
      | true =>
        rw [hf] at il l0
        simp (disch := omega) only [x_I1, x_I14, x_I18, x_I19, x_I2, x_I20, x_I24, x_I25, x_I3, x_I31, x_I33, x_I38, x_I39, x_R0, x_R10, x_R12, x_R13, x_R15, x_R16, x_R17, x_R21, x_R22, x_R23, x_R26, x_R27, x_R28, x_R29, x_R30, x_R32, x_R34, x_R35, x_R36, x_R37, x_R4, x_R40, x_R41, x_R43, x_R44, x_R45, x_R5, x_R6, x_R7, x_R8, x_R9, x_chk, x_chk15, x_chk7, x_w0I3, x_w0I4, x_w0I5, x_w0R1, x_w0R2, x_w1I3, x_w1I4, x_w1I5, x_w1R1, x_w1R2, x_sI1, x_sI14, x_sI18, x_sI19, x_sI2, x_sI20, x_sI24, x_sI25, x_sI3, x_sI31, x_sI33, x_sI38, x_sI39, x_sR11, x_sR42, x_w0sI3, x_w0sI4, x_w0sI5, x_w0sR, x_w1sI3, x_w1sI4, x_w1sI5, x_w1sR, x_A1n, x_sA1n, x_A13n, x_sA13n, x_A14n, x_sA14n, x_A21n, x_sA21n, x_A22n, x_sA22n, x_A27n, x_sA27n, x_A28n, x_sA28n, x_A29n, x_sA29n, x_A30n, x_sA30n, x_A31n, x_sA31n, x_A32n, x_sA32n, x_A33n, x_sA33n, x_A34n, x_sA34n, x_A35n, x_sA35n, x_A36n, x_sA36n, x_A37n, x_sA37n, x_A38n, x_sA38n, x_A39n, x_sA39n, x_A40n, x_sA40n, x_A41n, x_sA41n, x_A42n, x_sA42n, x_A43n, x_sA43n, evq_lv, evq_pure, lvM, m_hasn, m_isIn, m_one, m_isHang, x_w0R0e, x_R11e, x_w1R0e, Option.elim_some, Mo.bind_assoc, Mo.pure_bind, Mo.bind_pure, lit, nI_add, nI_mul, nI_subn, le_t, le_f, lt_t, lt_f, eq_t, eq_f, eqm_f, ltz_f, cond_true, cond_false, if_true, if_false, tq_I, tq_L, tq_sI, tq_sL, tq_lv, tq_pure, lvT, TM.bind_assoc, TM.pure_bind, TM.bind_pure, te_An, te_Bn, te_sAn, te_sBn, t_doors, t_hasn, t_isIn, t_of0, t_of1, t_of2, t_of3, t_of4, t_of5, t_of6, t_of7, lit, nI_add, nI_mul, nI_subn, le_t, le_f, lt_t, lt_f, eq_t, eq_f, eqm_f, ltz_f, cond_true, cond_false, if_true, if_false, t_of wk, e1, ev_call op, ev_call il, if_neg (fun z => Bool.noConfusion (l0.mp z))]
        exact no
      | false =>
        rw [hf] at il l0
        simp (disch := omega) only [x_I1, x_I14, x_I18, x_I19, x_I2, x_I20, x_I24, x_I25, x_I3, x_I31, x_I33, x_I38, x_I39, x_R0, x_R10, x_R12, x_R13, x_R15, x_R16, x_R17, x_R21, x_R22, x_R23, x_R26, x_R27, x_R28, x_R29, x_R30, x_R32, x_R34, x_R35, x_R36, x_R37, x_R4, x_R40, x_R41, x_R43, x_R44, x_R45, x_R5, x_R6, x_R7, x_R8, x_R9, x_chk, x_chk15, x_chk7, x_w0I3, x_w0I4, x_w0I5, x_w0R1, x_w0R2, x_w1I3, x_w1I4, x_w1I5, x_w1R1, x_w1R2, x_sI1, x_sI14, x_sI18, x_sI19, x_sI2, x_sI20, x_sI24, x_sI25, x_sI3, x_sI31, x_sI33, x_sI38, x_sI39, x_sR11, x_sR42, x_w0sI3, x_w0sI4, x_w0sI5, x_w0sR, x_w1sI3, x_w1sI4, x_w1sI5, x_w1sR, x_A1n, x_sA1n, x_A13n, x_sA13n, x_A14n, x_sA14n, x_A21n, x_sA21n, x_A22n, x_sA22n, x_A27n, x_sA27n, x_A28n, x_sA28n, x_A29n, x_sA29n, x_A30n, x_sA30n, x_A31n, x_sA31n, x_A32n, x_sA32n, x_A33n, x_sA33n, x_A34n, x_sA34n, x_A35n, x_sA35n, x_A36n, x_sA36n, x_A37n, x_sA37n, x_A38n, x_sA38n, x_A39n, x_sA39n, x_A40n, x_sA40n, x_A41n, x_sA41n, x_A42n, x_sA42n, x_A43n, x_sA43n, evq_lv, evq_pure, lvM, m_hasn, m_isIn, m_one, m_isHang, x_w0R0e, x_R11e, x_w1R0e, Option.elim_some, Mo.bind_assoc, Mo.pure_bind, Mo.bind_pure, lit, nI_add, nI_mul, nI_subn, le_t, le_f, lt_t, lt_f, eq_t, eq_f, eqm_f, ltz_f, cond_true, cond_false, if_true, if_false, tq_I, tq_L, tq_sI, tq_sL, tq_lv, tq_pure, lvT, TM.bind_assoc, TM.pure_bind, TM.bind_pure, te_An, te_Bn, te_sAn, te_sBn, t_doors, t_hasn, t_isIn, t_of0, t_of1, t_of2, t_of3, t_of4, t_of5, t_of6, t_of7, lit, nI_add, nI_mul, nI_subn, le_t, le_f, lt_t, lt_f, eq_t, eq_f, eqm_f, ltz_f, cond_true, cond_false, if_true, if_false, t_of wk, e1, ev_call op, ev_call il, if_pos (l0.mpr rfl)]
        refine Two.pp ⟨rfl, F, g, _, rfl, ?_, by omega, by omega⟩
        have O' : OW r an (nI (10 * y + x)) := ⟨O.1, O.2.1, Or.inr ⟨x, y, p3, p4, rfl, by
          unfold walkB at hw
          rw [Bool.or_eq_true, decide_eq_true_eq, decide_eq_true_eq] at hw
          exact hw⟩⟩
        refine R1.moved (r' := va_up r 340 (nI (10 * y + x))) hb hr e1 e2 hA (kept.rf.zW (by omega)) W.go O' (fun i hi => va_ne (by omega)) (fun d hd => by rw [va_ne (by omega)]; exact ha d hd) va_eq (I := [26, 45, 46]) (A := [14, 24, 25, 43, 44]) ((B.up (by decide) (by decide) (by decide)).uA (by decide)) (by decide) (by decide) ?_ ?_
        · rw [uA_22, va_eq, V.1]
        · rw [zW_2221, va_eq, va_ne (by decide), uA_1, B.1 23 (by decide), R1.2.2.2.1]
/-! ===== the one who is tried ===== -/
def sameT (xs xs' : XS) : Prop := xs'.1 = xs.1 ∧ (∀ k, k ≠ 201 → xs'.2.1 k = xs.2.1 k) ∧ (∀ k, k ≠ 210 → k ≠ 211 → xs'.2.2.1 k = xs.2.2.1 k) ∧ (∀ i k, i ≠ 1 → xs'.2.2.2.1 i k = xs.2.2.2.1 i k) ∧ xs'.2.2.2.2 = xs.2.2.2.2
theorem sameT.tr {a b c : XS} (h : sameT a b) (k : sameT b c) : sameT a c := ⟨k.1.trans h.1, fun i hi => (k.2.1 i hi).trans (h.2.1 i hi), fun i h1 h2 => (k.2.2.1 i h1 h2).trans (h.2.2.1 i h1 h2), fun i l hi => (k.2.2.2.1 i l hi).trans (h.2.2.2.1 i l hi), k.2.2.2.2.trans h.2.2.2.2⟩
theorem kept.t {a b : XS} (h : kept 1 a b) : sameT a b := ⟨h.1, fun k _ => by rw [h.2.1], fun k _ h2 => h.2.2.1 k h2, fun i k hi => h.2.2.2.1 i k (Or.inl hi), h.2.2.2.2⟩
theorem RelC.tried {n : Nat} {F : Fz} {g : gH} {xs xs' : XS} {ms : MS} (R : RelC n F g xs ms) (h : sameT xs xs') : RelC n F g xs' ms := by
  obtain ⟨h1, h2, h3, h4, h5⟩ := h
  obtain ⟨r1, r2, r3, r4, r5, r6, r7, r8, r9, r10, r11, r12, r13⟩ := R
  refine ⟨?_, ?_, ?_, ?_, r5, ?_, ?_, ?_, ?_, ?_, ?_, ?_, ?_⟩
  · unfold Rsys at r1 ⊢; rw [h4 5 0 (by decide), h4 6 0 (by decide), h4 7 0 (by decide), h5]; exact r1
  · rw [h1, h3 0 (by decide) (by decide)]; exact r2
  · rw [h1]; exact r3
  · rw [h4 0 4 (by decide)]; exact r4
  · rw [h2 200 (by decide), h2 11 (by decide), h2 42 (by decide), h4 0 3 (by decide), h3 200 (by decide) (by decide), h3 201 (by decide) (by decide)]; exact r6
  · rw [h5]; exact r7
  · rw [h1, h3 22 (by decide) (by decide)]; exact r8
  · rw [h1, h3 23 (by decide) (by decide)]; exact r9
  · rw [h1, h3 27 (by decide) (by decide)]; exact r10
  · rw [h1, h3 37 (by decide) (by decide)]; exact r11
  · rw [h1, h3 37 (by decide) (by decide)]; exact r12
  · rw [h1, h3 32 (by decide) (by decide)]; exact r13
section
variable {ax : Nat} {g : gH} {xs : XS} {β : Type} {f : Unit → Mo β}
theorem x_cpyH : (Mo.bind (cpyI (ax + 13) (nI 0) (ax + 21) (nI 0) (nI 10)) f).1 (mkX ax g xs) = (f ()).1 (mkX ax g (zAA xs 210 (va_cpy (xs.2.2.1 200) (xs.2.2.1 210) 0 0 10))) := by
  have e : (cpyI (ax + 13) (nI 0) (ax + 21) (nI 0) (nI 10)).1 (mkX ax g xs) = some ((), (va_up (mkX ax g xs).1 (ax + 21) (.inl (0, 10, .inl (va_cpy (xs.2.2.1 200) (xs.2.2.1 210) 0 0 10))), (mkX ax g xs).2)) := by
    unfold cpyI Mo.wr
    simp only [x_at13, x_at21]
    rfl
  rw [ev_call e]
  exact congrArg (f ()).1 (mkX_up (o := 21) (fun d => rfl) (fun d o' ho => by unfold xCell; split <;> first | rfl | exact absurd rfl ho))
theorem x_cpyA : (Mo.bind (cpyI (ax + 14) (nI 0) (ax + 22) (nI 0) (nI 10)) f).1 (mkX ax g xs) = (f ()).1 (mkX ax g (zAA xs 211 (va_cpy (xs.2.2.1 201) (xs.2.2.1 211) 0 0 10))) := by
  have e : (cpyI (ax + 14) (nI 0) (ax + 22) (nI 0) (nI 10)).1 (mkX ax g xs) = some ((), (va_up (mkX ax g xs).1 (ax + 22) (.inl (0, 10, .inl (va_cpy (xs.2.2.1 201) (xs.2.2.1 211) 0 0 10))), (mkX ax g xs).2)) := by
    unfold cpyI Mo.wr
    simp only [x_at14, x_at22]
    rfl
  rw [ev_call e]
  exact congrArg (f ()).1 (mkX_up (o := 22) (fun d => rfl) (fun d o' ho => by unfold xCell; split <;> first | rfl | exact absurd rfl ho))
end
theorem be_run {n : Nat} {G : gH} {xs : XS} {ho : Nat} {r : Row} {an : Nat → Nat} {p : Int32} (ok : okRow r) (W : WX 0 ho r an p xs) : Ok ((M_X3_be (n + 15) (n + 7)).1 (mkX n G xs)) (fun _ h' => ∃ xs', h' = mkX n G xs' ∧ WX 1 ho r an p xs' ∧ sameT xs xs' ∧ xs'.2.2.2.1 1 4 = xs.2.2.2.1 1 4) := by
  have hm := ok.2.2.1.2
  obtain ⟨w1, w2, w3, w4⟩ := W
  unfold M_X3_be
  simp (disch := omega) only [x_I1, x_I14, x_I18, x_I19, x_I2, x_I20, x_I24, x_I25, x_I3, x_I31, x_I33, x_I38, x_I39, x_R0, x_R10, x_R12, x_R13, x_R15, x_R16, x_R17, x_R21, x_R22, x_R23, x_R26, x_R27, x_R28, x_R29, x_R30, x_R32, x_R34, x_R35, x_R36, x_R37, x_R4, x_R40, x_R41, x_R43, x_R44, x_R45, x_R5, x_R6, x_R7, x_R8, x_R9, x_chk, x_chk15, x_chk7, x_w0I3, x_w0I4, x_w0I5, x_w0R1, x_w0R2, x_w1I3, x_w1I4, x_w1I5, x_w1R1, x_w1R2, x_sI1, x_sI14, x_sI18, x_sI19, x_sI2, x_sI20, x_sI24, x_sI25, x_sI3, x_sI31, x_sI33, x_sI38, x_sI39, x_sR11, x_sR42, x_w0sI3, x_w0sI4, x_w0sI5, x_w0sR, x_w1sI3, x_w1sI4, x_w1sI5, x_w1sR, x_A1n, x_sA1n, x_A13n, x_sA13n, x_A14n, x_sA14n, x_A21n, x_sA21n, x_A22n, x_sA22n, x_A27n, x_sA27n, x_A28n, x_sA28n, x_A29n, x_sA29n, x_A30n, x_sA30n, x_A31n, x_sA31n, x_A32n, x_sA32n, x_A33n, x_sA33n, x_A34n, x_sA34n, x_A35n, x_sA35n, x_A36n, x_sA36n, x_A37n, x_sA37n, x_A38n, x_sA38n, x_A39n, x_sA39n, x_A40n, x_sA40n, x_A41n, x_sA41n, x_A42n, x_sA42n, x_A43n, x_sA43n, evq_lv, evq_pure, lvM, m_hasn, m_isIn, m_one, m_isHang, x_w0R0e, x_R11e, x_w1R0e, Option.elim_some, Mo.bind_assoc, Mo.pure_bind, Mo.bind_pure, lit, nI_add, nI_mul, nI_subn, le_t, le_f, lt_t, lt_f, eq_t, eq_f, eqm_f, ltz_f, cond_true, cond_false, if_true, if_false, uI_1, uI_2, uA_1, uA_21, uA_22, uA_3, uB_1, uB_21, uB_22, uB_3, uL_1, uL_21, uL_22, zI_1, zI_2, zR_1, zR_21, zR_22, zA_1, zA_21, zA_221, zA_222, zAA_1, zAA_21, zAA_221, zAA_222, zW_1, zW_21, zW_221, zW_2221, zW_2222, zL_1, zL_21, zL_221, zL_2221, zL_22221, zL_22222, va_eq, va_ne, w1, x_cpyH, x_cpyA]
  refine Ok.pM ⟨_, rfl, ⟨?_, fun d hd => ?_, fun d hd => ?_, ?_⟩, ⟨rfl, fun k hk => ?_, fun k h1 h2 => ?_, fun i k hi => ?_, rfl⟩, ?_⟩
  · simp (disch := omega) only [uI_1, uI_2, uA_1, uA_21, uA_22, uA_3, uB_1, uB_21, uB_22, uB_3, uL_1, uL_21, uL_22, zI_1, zI_2, zR_1, zR_21, zR_22, zA_1, zA_21, zA_221, zA_222, zAA_1, zAA_21, zAA_221, zAA_222, zW_1, zW_21, zW_221, zW_2221, zW_2222, zL_1, zL_21, zL_221, zL_2221, zL_22221, zL_22222, va_eq, va_ne]
  · show _ = _
    simp (disch := omega) only [uI_1, uI_2, uA_1, uA_21, uA_22, uA_3, uB_1, uB_21, uB_22, uB_3, uL_1, uL_21, uL_22, zI_1, zI_2, zR_1, zR_21, zR_22, zA_1, zA_21, zA_221, zA_222, zAA_1, zAA_21, zAA_221, zAA_222, zW_1, zW_21, zW_221, zW_2221, zW_2222, zL_1, zL_21, zL_221, zL_2221, zL_22221, zL_22222, va_eq, va_ne]
    rw [cpy10 (by omega)]; exact w2 d hd
  · simp (disch := omega) only [uI_1, uI_2, uA_1, uA_21, uA_22, uA_3, uB_1, uB_21, uB_22, uB_3, uL_1, uL_21, uL_22, zI_1, zI_2, zR_1, zR_21, zR_22, zA_1, zA_21, zA_221, zA_222, zAA_1, zAA_21, zAA_221, zAA_222, zW_1, zW_21, zW_221, zW_2221, zW_2222, zL_1, zL_21, zL_221, zL_2221, zL_22221, zL_22222, va_eq, va_ne]
    rw [cpy10 (by omega)]; exact w3 d hd
  · simp (disch := omega) only [uI_1, uI_2, uA_1, uA_21, uA_22, uA_3, uB_1, uB_21, uB_22, uB_3, uL_1, uL_21, uL_22, zI_1, zI_2, zR_1, zR_21, zR_22, zA_1, zA_21, zA_221, zA_222, zAA_1, zAA_21, zAA_221, zAA_222, zW_1, zW_21, zW_221, zW_2221, zW_2222, zL_1, zL_21, zL_221, zL_2221, zL_22221, zL_22222, va_eq, va_ne]; exact w4
  · rw [zW_21, zAA_21, zAA_21, zR_21, va_ne hk]
  · simp (disch := omega) only [uI_1, uI_2, uA_1, uA_21, uA_22, uA_3, uB_1, uB_21, uB_22, uB_3, uL_1, uL_21, uL_22, zI_1, zI_2, zR_1, zR_21, zR_22, zA_1, zA_21, zA_221, zA_222, zAA_1, zAA_21, zAA_221, zAA_222, zW_1, zW_21, zW_221, zW_2221, zW_2222, zL_1, zL_21, zL_221, zL_2221, zL_22221, zL_22222, va_eq, va_ne]
  · rw [zW_2221, va_ne hi]; rfl
  · simp (disch := omega) only [uI_1, uI_2, uA_1, uA_21, uA_22, uA_3, uB_1, uB_21, uB_22, uB_3, uL_1, uL_21, uL_22, zI_1, zI_2, zR_1, zR_21, zR_22, zA_1, zA_21, zA_221, zA_222, zAA_1, zAA_21, zAA_221, zAA_222, zW_1, zW_21, zW_221, zW_2221, zW_2222, zL_1, zL_21, zL_221, zL_2221, zL_22221, zL_22222, va_eq, va_ne]
/-- the one loop sees a turn later that it is over -/
theorem Two.lag {S E T E' : Type} {b : S → Mo (S ⊕ E)} {c : T → TM (T ⊕ E')} (I : Nat → S → gH → T → MS → Prop) {Q : E → gH → E' → MS → Prop} (step : ∀ k s h t m, I k s h t m → Two ((b s).1 h) (c t m) (fun a h' d m' => ∃ s', a = .inl s' ∧ ((∃ t', d = .inl t' ∧ ∃ k', k' < k ∧ I k' s' h' t' m') ∨ (∃ e, d = .inr e ∧ Ok ((b s').1 h') (fun a h'' => ∃ e', a = .inr e' ∧ Q e' h'' e m'))))) : ∀ k s h t m, I k s h t m → Two ((Mo.loop b s).1 h) (TM.loop c t m) Q := by
  intro k
  induction k using Nat.strongRecOn with
  | ind k ih =>
    intro s h t m hI
    obtain ⟨a, h', d, m', e1, e2, s', rfl, q⟩ := step k s h t m hI
    rw [Mo.loop_inl e1]
    rcases q with ⟨t', rfl, k', hk, hI'⟩ | ⟨e, rfl, a, h'', e3, e', rfl, q⟩
    · rw [TM.loop_inl e2]
      exact ih k' hk s' h' t' m' hI'
    · rw [TM.loop_inr e2, Mo.loop_inr e3]
      exact ⟨e', h'', e, m', rfl, rfl, q⟩
