set_option maxRecDepth 100000
def sumN (f : Nat → Nat) : Nat → Nat
  | 0 => 0
  | k + 1 => sumN f k + f k
theorem sumN_add (f g : Nat → Nat) : ∀ k, sumN (fun i => f i + g i) k = sumN f k + sumN g k
  | 0 => rfl
  | k + 1 => by
    show sumN (fun i => f i + g i) k + (f k + g k) = (sumN f k + f k) + (sumN g k + g k)
    rw [sumN_add f g k]; omega
theorem sumN_congr {f g : Nat → Nat} : ∀ k, (∀ i, i < k → f i = g i) → sumN f k = sumN g k
  | 0, _ => rfl
  | k + 1, h => by
    show sumN f k + f k = sumN g k + g k
    rw [sumN_congr k (fun i hi => h i (by omega)), h k (by omega)]
theorem sumN_zero {f : Nat → Nat} (k : Nat) (h : ∀ i, i < k → f i = 0) : sumN f k = 0 := by
  induction k with
  | zero => rfl
  | succ k ih => show sumN f k + f k = 0; rw [ih (fun i hi => h i (by omega)), h k (by omega)]
theorem sumN_le {f : Nat → Nat} {c : Nat} (k : Nat) (h : ∀ i, i < k → f i ≤ c) : sumN f k ≤ c * k := by
  induction k with
  | zero => exact Nat.zero_le _
  | succ k ih =>
    have := ih (fun i hi => h i (by omega))
    have := h k (by omega)
    show sumN f k + f k ≤ c * (k + 1)
    rw [Nat.mul_succ]; omega
/-- pairs above and below the diagonal -/
theorem sum_flip (b : Nat → Nat → Nat) : ∀ N, sumN (fun d => sumN (fun e => if d < e then b d e else 0) N) N = sumN (fun d => sumN (fun e => b e d) d) N
  | 0 => rfl
  | N + 1 => by
    show sumN (fun d => sumN (fun e => if d < e then b d e else 0) (N + 1)) N + sumN (fun e => if N < e then b N e else 0) (N + 1) = sumN (fun d => sumN (fun e => b e d) d) N + sumN (fun e => b e N) N
    rw [sumN_zero (N + 1) (fun i hi => if_neg (by omega)), ← sum_flip b N]
    show sumN (fun d => sumN (fun e => if d < e then b d e else 0) N + (if d < N then b d N else 0)) N + 0 = _
    rw [sumN_add, sumN_congr (f := fun d => if d < N then b d N else 0) (g := fun e => b e N) N (fun i hi => if_pos hi)]
    rfl
/-- how many pairs bite, by hangings k -/
def pairsN (r : Row) (k : Nat → Nat) : Nat := sumN (fun d => sumN (fun e => (biteR r d (k d) e (k e)).toNat) d) (rN r 2)
theorem pairsN_up (r : Row) (k : Nat → Nat) : sumN (fun d => sumN (fun e => if d < e then (biteR r d (k d) e (k e)).toNat else 0) (rN r 2)) (rN r 2) = pairsN r k := by
  unfold pairsN
  rw [sum_flip (fun d e => (biteR r d (k d) e (k e)).toNat)]
  refine sumN_congr _ fun d _ => sumN_congr _ fun e _ => ?_
  rw [biteR_comm]
theorem pairsN_le {r : Row} (ok : okRow r) (k : Nat → Nat) : pairsN r k ≤ 100 := by
  have hm := ok.2.2.1.2
  unfold pairsN
  have : sumN (fun d => sumN (fun e => (biteR r d (k d) e (k e)).toNat) d) (rN r 2) ≤ 10 * rN r 2 := by
    refine sumN_le _ fun d hd => ?_
    have := sumN_le (f := fun e => (biteR r d (k d) e (k e)).toNat) (c := 1) d (fun e _ => Bool.toNat_le _)
    omega
  omega
theorem b2i_nat (b : Bool) : b2i b = nI b.toNat := by cases b <;> rfl
theorem pairs_run {n : Nat} {F : Fz} {G : gH} {xs : XS} {ho q : Nat} {r : Row} {nm : Nat → Int64} {f : Nat → Int32} {k : Nat → Nat} (Z : FrzX n F G) (H : IsHouse F ho r nm) (ok : okRow r) (e1 : xs.2.1 200 = some ho) (hq : (mkX n G xs).1 q = .inl (0, 10, .inl f)) (hf : ∀ d, d < rN r 2 → f d = nI (k d) ∧ k d < 4) : (M_X1_pairs n q).1 (mkX n G xs) = some (nI (pairsN r k), mkX n G xs) := by
  have hm := ok.2.2.1.2
  have A : ∀ {i : Nat} {β : Type} {f' : Int32 → Mo β}, i < 10 → (Mo.bind (aldI 0 q (nI i)) f').1 (mkX n G xs) = (f' (f i)).1 (mkX n G xs) := fun hi => by
    rw [ev_ald hq (gIn_nI hi (by decide)), nI_clamp (by omega)]
  suffices h : Ok ((M_X1_pairs n q).1 (mkX n G xs)) (fun v h' => v = nI (pairsN r k) ∧ h' = mkX n G xs) by
    obtain ⟨v, h', e, rfl, rfl⟩ := h
    exact e
  unfold M_X1_pairs
  simp (disch := omega) only [x_I1, x_I14, x_I18, x_I19, x_I2, x_I20, x_I24, x_I25, x_I3, x_I31, x_I33, x_I38, x_I39, x_R0, x_R10, x_R12, x_R13, x_R15, x_R16, x_R17, x_R21, x_R22, x_R23, x_R26, x_R27, x_R28, x_R29, x_R30, x_R32, x_R34, x_R35, x_R36, x_R37, x_R4, x_R40, x_R41, x_R43, x_R44, x_R45, x_R5, x_R6, x_R7, x_R8, x_R9, x_chk, x_chk15, x_chk7, x_w0I3, x_w0I4, x_w0I5, x_w0R1, x_w0R2, x_w1I3, x_w1I4, x_w1I5, x_w1R1, x_w1R2, x_sI1, x_sI14, x_sI18, x_sI19, x_sI2, x_sI20, x_sI24, x_sI25, x_sI3, x_sI31, x_sI33, x_sI38, x_sI39, x_sR11, x_sR42, x_w0sI3, x_w0sI4, x_w0sI5, x_w0sR, x_w1sI3, x_w1sI4, x_w1sI5, x_w1sR, x_A1n, x_sA1n, x_A13n, x_sA13n, x_A14n, x_sA14n, x_A21n, x_sA21n, x_A22n, x_sA22n, x_A27n, x_sA27n, x_A28n, x_sA28n, x_A29n, x_sA29n, x_A30n, x_sA30n, x_A31n, x_sA31n, x_A32n, x_sA32n, x_A33n, x_sA33n, x_A34n, x_sA34n, x_A35n, x_sA35n, x_A36n, x_sA36n, x_A37n, x_sA37n, x_A38n, x_sA38n, x_A39n, x_sA39n, x_A40n, x_sA40n, x_A41n, x_sA41n, x_A42n, x_sA42n, x_A43n, x_sA43n, evq_lv, evq_pure, lvM, m_hasn, m_isIn, m_one, m_isHang, x_w0R0e, x_R11e, x_w1R0e, Option.elim_some, Mo.bind_assoc, Mo.pure_bind, Mo.bind_pure, lit, nI_add, nI_mul, nI_subn, le_t, le_f, lt_t, lt_f, eq_t, eq_f, eqm_f, ltz_f, cond_true, cond_false, if_true, if_false]
  refine Ok.forM (S := Int32 × Int32) (fun d => (nI (sumN (fun d => sumN (fun e => if d < e then (biteR r d (k d) e (k e)).toNat else 0) (rN r 2)) d), nI d)) (rN r 2) (fun _ h => h = mkX n G xs) (fun d h' hd hI => ?_) (fun h' hI => ?_) (i := 0) (by omega) rfl
  · subst hI
    dsimp only
    generalize hS : sumN (fun d => sumN (fun e => if d < e then (biteR r d (k d) e (k e)).toNat else 0) (rN r 2)) d = S
    simp (disch := omega) only [x_I1, x_I14, x_I18, x_I19, x_I2, x_I20, x_I24, x_I25, x_I3, x_I31, x_I33, x_I38, x_I39, x_R0, x_R10, x_R12, x_R13, x_R15, x_R16, x_R17, x_R21, x_R22, x_R23, x_R26, x_R27, x_R28, x_R29, x_R30, x_R32, x_R34, x_R35, x_R36, x_R37, x_R4, x_R40, x_R41, x_R43, x_R44, x_R45, x_R5, x_R6, x_R7, x_R8, x_R9, x_chk, x_chk15, x_chk7, x_w0I3, x_w0I4, x_w0I5, x_w0R1, x_w0R2, x_w1I3, x_w1I4, x_w1I5, x_w1R1, x_w1R2, x_sI1, x_sI14, x_sI18, x_sI19, x_sI2, x_sI20, x_sI24, x_sI25, x_sI3, x_sI31, x_sI33, x_sI38, x_sI39, x_sR11, x_sR42, x_w0sI3, x_w0sI4, x_w0sI5, x_w0sR, x_w1sI3, x_w1sI4, x_w1sI5, x_w1sR, x_A1n, x_sA1n, x_A13n, x_sA13n, x_A14n, x_sA14n, x_A21n, x_sA21n, x_A22n, x_sA22n, x_A27n, x_sA27n, x_A28n, x_sA28n, x_A29n, x_sA29n, x_A30n, x_sA30n, x_A31n, x_sA31n, x_A32n, x_sA32n, x_A33n, x_sA33n, x_A34n, x_sA34n, x_A35n, x_sA35n, x_A36n, x_sA36n, x_A37n, x_sA37n, x_A38n, x_sA38n, x_A39n, x_sA39n, x_A40n, x_sA40n, x_A41n, x_sA41n, x_A42n, x_sA42n, x_A43n, x_sA43n, evq_lv, evq_pure, lvM, m_hasn, m_isIn, m_one, m_isHang, x_w0R0e, x_R11e, x_w1R0e, Option.elim_some, Mo.bind_assoc, Mo.pure_bind, Mo.bind_pure, lit, nI_add, nI_mul, nI_subn, le_t, le_f, lt_t, lt_f, eq_t, eq_f, eqm_f, ltz_f, cond_true, cond_false, if_true, if_false, e1, hs_many (Z _) H, ok.2.2.1.1]
    refine Ok.bM (P := fun v h' => v = nI (S + sumN (fun e => if d < e then (biteR r d (k d) e (k e)).toNat else 0) (rN r 2)) ∧ h' = mkX n G xs) ?_ (fun v h' q => ?_)
    · refine Ok.forMs (S := Int32 × Int32) (fun e => (nI (S + sumN (fun e => if d < e then (biteR r d (k d) e (k e)).toNat else 0) e), nI e)) (rN r 2) (fun e h => d < e ∧ h = mkX n G xs) (i := d + 1) ?_ (by omega) ⟨by omega, rfl⟩ (fun e h' he hI => ?_) (fun h' hI => ?_)
      · rw [sumN_zero (d + 1) (fun i hi => if_neg (by omega))]; rfl
      · obtain ⟨he', rfl⟩ := hI
        obtain ⟨a1, a2⟩ := hf d hd
        obtain ⟨b1, b2⟩ := hf e he
        simp (disch := omega) only [x_I1, x_I14, x_I18, x_I19, x_I2, x_I20, x_I24, x_I25, x_I3, x_I31, x_I33, x_I38, x_I39, x_R0, x_R10, x_R12, x_R13, x_R15, x_R16, x_R17, x_R21, x_R22, x_R23, x_R26, x_R27, x_R28, x_R29, x_R30, x_R32, x_R34, x_R35, x_R36, x_R37, x_R4, x_R40, x_R41, x_R43, x_R44, x_R45, x_R5, x_R6, x_R7, x_R8, x_R9, x_chk, x_chk15, x_chk7, x_w0I3, x_w0I4, x_w0I5, x_w0R1, x_w0R2, x_w1I3, x_w1I4, x_w1I5, x_w1R1, x_w1R2, x_sI1, x_sI14, x_sI18, x_sI19, x_sI2, x_sI20, x_sI24, x_sI25, x_sI3, x_sI31, x_sI33, x_sI38, x_sI39, x_sR11, x_sR42, x_w0sI3, x_w0sI4, x_w0sI5, x_w0sR, x_w1sI3, x_w1sI4, x_w1sI5, x_w1sR, x_A1n, x_sA1n, x_A13n, x_sA13n, x_A14n, x_sA14n, x_A21n, x_sA21n, x_A22n, x_sA22n, x_A27n, x_sA27n, x_A28n, x_sA28n, x_A29n, x_sA29n, x_A30n, x_sA30n, x_A31n, x_sA31n, x_A32n, x_sA32n, x_A33n, x_sA33n, x_A34n, x_sA34n, x_A35n, x_sA35n, x_A36n, x_sA36n, x_A37n, x_sA37n, x_A38n, x_sA38n, x_A39n, x_sA39n, x_A40n, x_sA40n, x_A41n, x_sA41n, x_A42n, x_sA42n, x_A43n, x_sA43n, evq_lv, evq_pure, lvM, m_hasn, m_isIn, m_one, m_isHang, x_w0R0e, x_R11e, x_w1R0e, Option.elim_some, Mo.bind_assoc, Mo.pure_bind, Mo.bind_pure, lit, nI_add, nI_mul, nI_subn, le_t, le_f, lt_t, lt_f, eq_t, eq_f, eqm_f, ltz_f, cond_true, cond_false, if_true, if_false, e1, hs_many (Z _) H, ok.2.2.1.1, A, a1, b1, m_bitten (Z _) H hm]
        rw [biteS_has r d (k d) e (by omega) (k e) b2]
        generalize hB : sumN (fun e => if d < e then (biteR r d (k d) e (k e)).toNat else 0) e = T
        cases hc : biteR r d (k d) e (k e) <;> simp (disch := omega) only [x_I1, x_I14, x_I18, x_I19, x_I2, x_I20, x_I24, x_I25, x_I3, x_I31, x_I33, x_I38, x_I39, x_R0, x_R10, x_R12, x_R13, x_R15, x_R16, x_R17, x_R21, x_R22, x_R23, x_R26, x_R27, x_R28, x_R29, x_R30, x_R32, x_R34, x_R35, x_R36, x_R37, x_R4, x_R40, x_R41, x_R43, x_R44, x_R45, x_R5, x_R6, x_R7, x_R8, x_R9, x_chk, x_chk15, x_chk7, x_w0I3, x_w0I4, x_w0I5, x_w0R1, x_w0R2, x_w1I3, x_w1I4, x_w1I5, x_w1R1, x_w1R2, x_sI1, x_sI14, x_sI18, x_sI19, x_sI2, x_sI20, x_sI24, x_sI25, x_sI3, x_sI31, x_sI33, x_sI38, x_sI39, x_sR11, x_sR42, x_w0sI3, x_w0sI4, x_w0sI5, x_w0sR, x_w1sI3, x_w1sI4, x_w1sI5, x_w1sR, x_A1n, x_sA1n, x_A13n, x_sA13n, x_A14n, x_sA14n, x_A21n, x_sA21n, x_A22n, x_sA22n, x_A27n, x_sA27n, x_A28n, x_sA28n, x_A29n, x_sA29n, x_A30n, x_sA30n, x_A31n, x_sA31n, x_A32n, x_sA32n, x_A33n, x_sA33n, x_A34n, x_sA34n, x_A35n, x_sA35n, x_A36n, x_sA36n, x_A37n, x_sA37n, x_A38n, x_sA38n, x_A39n, x_sA39n, x_A40n, x_sA40n, x_A41n, x_sA41n, x_A42n, x_sA42n, x_A43n, x_sA43n, evq_lv, evq_pure, lvM, m_hasn, m_isIn, m_one, m_isHang, x_w0R0e, x_R11e, x_w1R0e, Option.elim_some, Mo.bind_assoc, Mo.pure_bind, Mo.bind_pure, lit, nI_add, nI_mul, nI_subn, le_t, le_f, lt_t, lt_f, eq_t, eq_f, eqm_f, ltz_f, cond_true, cond_false, if_true, if_false, b2i_nat] <;> refine Ok.pM ⟨?_, by omega, rfl⟩ <;> (show _ = (nI (S + (sumN _ e + _)), _)) <;> rw [hB] <;> dsimp only <;> rw [if_pos he', hc] <;> rfl
      · obtain ⟨he', rfl⟩ := hI
        simp (disch := omega) only [x_I1, x_I14, x_I18, x_I19, x_I2, x_I20, x_I24, x_I25, x_I3, x_I31, x_I33, x_I38, x_I39, x_R0, x_R10, x_R12, x_R13, x_R15, x_R16, x_R17, x_R21, x_R22, x_R23, x_R26, x_R27, x_R28, x_R29, x_R30, x_R32, x_R34, x_R35, x_R36, x_R37, x_R4, x_R40, x_R41, x_R43, x_R44, x_R45, x_R5, x_R6, x_R7, x_R8, x_R9, x_chk, x_chk15, x_chk7, x_w0I3, x_w0I4, x_w0I5, x_w0R1, x_w0R2, x_w1I3, x_w1I4, x_w1I5, x_w1R1, x_w1R2, x_sI1, x_sI14, x_sI18, x_sI19, x_sI2, x_sI20, x_sI24, x_sI25, x_sI3, x_sI31, x_sI33, x_sI38, x_sI39, x_sR11, x_sR42, x_w0sI3, x_w0sI4, x_w0sI5, x_w0sR, x_w1sI3, x_w1sI4, x_w1sI5, x_w1sR, x_A1n, x_sA1n, x_A13n, x_sA13n, x_A14n, x_sA14n, x_A21n, x_sA21n, x_A22n, x_sA22n, x_A27n, x_sA27n, x_A28n, x_sA28n, x_A29n, x_sA29n, x_A30n, x_sA30n, x_A31n, x_sA31n, x_A32n, x_sA32n, x_A33n, x_sA33n, x_A34n, x_sA34n, x_A35n, x_sA35n, x_A36n, x_sA36n, x_A37n, x_sA37n, x_A38n, x_sA38n, x_A39n, x_sA39n, x_A40n, x_sA40n, x_A41n, x_sA41n, x_A42n, x_sA42n, x_A43n, x_sA43n, evq_lv, evq_pure, lvM, m_hasn, m_isIn, m_one, m_isHang, x_w0R0e, x_R11e, x_w1R0e, Option.elim_some, Mo.bind_assoc, Mo.pure_bind, Mo.bind_pure, lit, nI_add, nI_mul, nI_subn, le_t, le_f, lt_t, lt_f, eq_t, eq_f, eqm_f, ltz_f, cond_true, cond_false, if_true, if_false, e1, hs_many (Z _) H, ok.2.2.1.1]
        exact Ok.pM ⟨rfl, rfl⟩
    · obtain ⟨rfl, rfl⟩ := q
      simp (disch := omega) only [x_I1, x_I14, x_I18, x_I19, x_I2, x_I20, x_I24, x_I25, x_I3, x_I31, x_I33, x_I38, x_I39, x_R0, x_R10, x_R12, x_R13, x_R15, x_R16, x_R17, x_R21, x_R22, x_R23, x_R26, x_R27, x_R28, x_R29, x_R30, x_R32, x_R34, x_R35, x_R36, x_R37, x_R4, x_R40, x_R41, x_R43, x_R44, x_R45, x_R5, x_R6, x_R7, x_R8, x_R9, x_chk, x_chk15, x_chk7, x_w0I3, x_w0I4, x_w0I5, x_w0R1, x_w0R2, x_w1I3, x_w1I4, x_w1I5, x_w1R1, x_w1R2, x_sI1, x_sI14, x_sI18, x_sI19, x_sI2, x_sI20, x_sI24, x_sI25, x_sI3, x_sI31, x_sI33, x_sI38, x_sI39, x_sR11, x_sR42, x_w0sI3, x_w0sI4, x_w0sI5, x_w0sR, x_w1sI3, x_w1sI4, x_w1sI5, x_w1sR, x_A1n, x_sA1n, x_A13n, x_sA13n, x_A14n, x_sA14n, x_A21n, x_sA21n, x_A22n, x_sA22n, x_A27n, x_sA27n, x_A28n, x_sA28n, x_A29n, x_sA29n, x_A30n, x_sA30n, x_A31n, x_sA31n, x_A32n, x_sA32n, x_A33n, x_sA33n, x_A34n, x_sA34n, x_A35n, x_sA35n, x_A36n, x_sA36n, x_A37n, x_sA37n, x_A38n, x_sA38n, x_A39n, x_sA39n, x_A40n, x_sA40n, x_A41n, x_sA41n, x_A42n, x_sA42n, x_A43n, x_sA43n, evq_lv, evq_pure, lvM, m_hasn, m_isIn, m_one, m_isHang, x_w0R0e, x_R11e, x_w1R0e, Option.elim_some, Mo.bind_assoc, Mo.pure_bind, Mo.bind_pure, lit, nI_add, nI_mul, nI_subn, le_t, le_f, lt_t, lt_f, eq_t, eq_f, eqm_f, ltz_f, cond_true, cond_false, if_true, if_false]
      refine Ok.pM ⟨?_, rfl⟩
      show _ = (nI (sumN _ d + _), _)
      rw [hS]
  · subst hI
    dsimp only
    rw [pairsN_up]
    simp (disch := omega) only [x_I1, x_I14, x_I18, x_I19, x_I2, x_I20, x_I24, x_I25, x_I3, x_I31, x_I33, x_I38, x_I39, x_R0, x_R10, x_R12, x_R13, x_R15, x_R16, x_R17, x_R21, x_R22, x_R23, x_R26, x_R27, x_R28, x_R29, x_R30, x_R32, x_R34, x_R35, x_R36, x_R37, x_R4, x_R40, x_R41, x_R43, x_R44, x_R45, x_R5, x_R6, x_R7, x_R8, x_R9, x_chk, x_chk15, x_chk7, x_w0I3, x_w0I4, x_w0I5, x_w0R1, x_w0R2, x_w1I3, x_w1I4, x_w1I5, x_w1R1, x_w1R2, x_sI1, x_sI14, x_sI18, x_sI19, x_sI2, x_sI20, x_sI24, x_sI25, x_sI3, x_sI31, x_sI33, x_sI38, x_sI39, x_sR11, x_sR42, x_w0sI3, x_w0sI4, x_w0sI5, x_w0sR, x_w1sI3, x_w1sI4, x_w1sI5, x_w1sR, x_A1n, x_sA1n, x_A13n, x_sA13n, x_A14n, x_sA14n, x_A21n, x_sA21n, x_A22n, x_sA22n, x_A27n, x_sA27n, x_A28n, x_sA28n, x_A29n, x_sA29n, x_A30n, x_sA30n, x_A31n, x_sA31n, x_A32n, x_sA32n, x_A33n, x_sA33n, x_A34n, x_sA34n, x_A35n, x_sA35n, x_A36n, x_sA36n, x_A37n, x_sA37n, x_A38n, x_sA38n, x_A39n, x_sA39n, x_A40n, x_sA40n, x_A41n, x_sA41n, x_A42n, x_sA42n, x_A43n, x_sA43n, evq_lv, evq_pure, lvM, m_hasn, m_isIn, m_one, m_isHang, x_w0R0e, x_R11e, x_w1R0e, Option.elim_some, Mo.bind_assoc, Mo.pure_bind, Mo.bind_pure, lit, nI_add, nI_mul, nI_subn, le_t, le_f, lt_t, lt_f, eq_t, eq_f, eqm_f, ltz_f, cond_true, cond_false, if_true, if_false, e1, hs_many (Z _) H, ok.2.2.1.1]
    exact Ok.pM ⟨rfl, rfl⟩
theorem clashesOf_run {m : MS} {r : Row} {k : Nat → Nat} (hr : m.2.2.1 14 = r) (ok : okRow r) (S : swOk m r (rN r 2)) (hf : ∀ d, d < rN r 2 → m.2.2.1 30 d = nI (k d) ∧ k d < 4) : M_X10_clashesOf m = some (nI (pairsN r k), m) := by
  have hm := ok.2.2.1.2
  suffices h : Ok (M_X10_clashesOf m) (fun v h' => v = nI (pairsN r k) ∧ h' = m) by
    obtain ⟨v, h', e, rfl, rfl⟩ := h
    exact e
  unfold M_X10_clashesOf
  simp (disch := omega) only [tq_I, tq_L, tq_sI, tq_sL, tq_lv, tq_pure, lvT, TM.bind_assoc, TM.pure_bind, TM.bind_pure, te_An, te_Bn, te_sAn, te_sBn, t_doors, t_hasn, t_isIn, t_of0, t_of1, t_of2, t_of3, t_of4, t_of5, t_of6, t_of7, lit, nI_add, nI_mul, nI_subn, le_t, le_f, lt_t, lt_f, eq_t, eq_f, eqm_f, ltz_f, cond_true, cond_false, if_true, if_false]
  refine Ok.forTs (S := Int32 × Int32) (fun d => (nI (sumN (fun d => sumN (fun e => (biteR r d (k d) e (k e)).toNat) d) d), nI d)) (rN r 2) (fun _ h => h = m) (i := 0) rfl (by omega) rfl (fun d h' hd hI => ?_) (fun h' hI => ?_)
  · subst hI
    dsimp only
    generalize hS : sumN (fun d => sumN (fun e => (biteR r d (k d) e (k e)).toNat) d) d = T
    simp (disch := omega) only [tq_I, tq_L, tq_sI, tq_sL, tq_lv, tq_pure, lvT, TM.bind_assoc, TM.pure_bind, TM.bind_pure, te_An, te_Bn, te_sAn, te_sBn, t_doors, t_hasn, t_isIn, t_of0, t_of1, t_of2, t_of3, t_of4, t_of5, t_of6, t_of7, lit, nI_add, nI_mul, nI_subn, le_t, le_f, lt_t, lt_f, eq_t, eq_f, eqm_f, ltz_f, cond_true, cond_false, if_true, if_false, hr, ok.2.2.1.1]
    refine Ok.bT (P := fun v h'' => v = nI (T + sumN (fun e => (biteR r d (k d) e (k e)).toNat) d) ∧ h'' = h') ?_ (fun v h' q => ?_)
    · refine Ok.forTs (S := Int32 × Int32) (fun e => (nI (T + sumN (fun e => (biteR r d (k d) e (k e)).toNat) e), nI e)) d (fun e h => h = h') (i := 0) rfl (by omega) rfl (fun e h2 he hI => ?_) (fun h2 hI => ?_)
      · subst hI
        obtain ⟨a1, a2⟩ := hf d hd
        obtain ⟨b1, b2⟩ := hf e (by omega)
        simp (disch := omega) only [tq_I, tq_L, tq_sI, tq_sL, tq_lv, tq_pure, lvT, TM.bind_assoc, TM.pure_bind, TM.bind_pure, te_An, te_Bn, te_sAn, te_sBn, t_doors, t_hasn, t_isIn, t_of0, t_of1, t_of2, t_of3, t_of4, t_of5, t_of6, t_of7, lit, nI_add, nI_mul, nI_subn, le_t, le_f, lt_t, lt_f, eq_t, eq_f, eqm_f, ltz_f, cond_true, cond_false, if_true, if_false, a1, b1, t_bite S hm]
        cases hc : biteR r d (k d) e (k e) <;> simp (disch := omega) only [tq_I, tq_L, tq_sI, tq_sL, tq_lv, tq_pure, lvT, TM.bind_assoc, TM.pure_bind, TM.bind_pure, te_An, te_Bn, te_sAn, te_sBn, t_doors, t_hasn, t_isIn, t_of0, t_of1, t_of2, t_of3, t_of4, t_of5, t_of6, t_of7, lit, nI_add, nI_mul, nI_subn, le_t, le_f, lt_t, lt_f, eq_t, eq_f, eqm_f, ltz_f, cond_true, cond_false, if_true, if_false] <;> refine Ok.pT ⟨?_, rfl⟩ <;> (show _ = (nI (T + (sumN _ e + _)), _)) <;> dsimp only <;> rw [hc] <;> rfl
      · subst hI
        simp (disch := omega) only [tq_I, tq_L, tq_sI, tq_sL, tq_lv, tq_pure, lvT, TM.bind_assoc, TM.pure_bind, TM.bind_pure, te_An, te_Bn, te_sAn, te_sBn, t_doors, t_hasn, t_isIn, t_of0, t_of1, t_of2, t_of3, t_of4, t_of5, t_of6, t_of7, lit, nI_add, nI_mul, nI_subn, le_t, le_f, lt_t, lt_f, eq_t, eq_f, eqm_f, ltz_f, cond_true, cond_false, if_true, if_false]
        exact Ok.pT ⟨rfl, rfl⟩
    · obtain ⟨rfl, rfl⟩ := q
      simp (disch := omega) only [tq_I, tq_L, tq_sI, tq_sL, tq_lv, tq_pure, lvT, TM.bind_assoc, TM.pure_bind, TM.bind_pure, te_An, te_Bn, te_sAn, te_sBn, t_doors, t_hasn, t_isIn, t_of0, t_of1, t_of2, t_of3, t_of4, t_of5, t_of6, t_of7, lit, nI_add, nI_mul, nI_subn, le_t, le_f, lt_t, lt_f, eq_t, eq_f, eqm_f, ltz_f, cond_true, cond_false, if_true, if_false]
      refine Ok.pT ⟨?_, rfl⟩
      show _ = (nI (sumN _ d + _), _)
      rw [hS]
  · subst hI
    dsimp only
    simp (disch := omega) only [tq_I, tq_L, tq_sI, tq_sL, tq_lv, tq_pure, lvT, TM.bind_assoc, TM.pure_bind, TM.bind_pure, te_An, te_Bn, te_sAn, te_sBn, t_doors, t_hasn, t_isIn, t_of0, t_of1, t_of2, t_of3, t_of4, t_of5, t_of6, t_of7, lit, nI_add, nI_mul, nI_subn, le_t, le_f, lt_t, lt_f, eq_t, eq_f, eqm_f, ltz_f, cond_true, cond_false, if_true, if_false, hr, ok.2.2.1.1]
    exact Ok.pT ⟨rfl, rfl⟩
/-- from the op's beginning on -/
theorem laySwept_two {n : Nat} {F : Fz} {g : gH} {xs : XS} {ms m1 : MS} {r : Row} (R : RelC n F g xs ms) (hl : M_X10_lay (uI ms 0 (nI 0)) = some ((), m1)) (hr : m1.2.2.1 14 = r) (hb : m1.1 22 = 1) (ok : okRow r) : Ok (M_X10_laySwept (uI ms 0 (nI 0))) (fun _ m' => swOk m' r (rN r 2) ∧ sameB [26] [24, 25, 29] [27, 28] m1 m') := by
  have := laySwept_run hr hb ok
  unfold M_X10_laySwept at this ⊢
  rw [t_of (lay_again hb)] at this
  rw [t_of hl]
  exact this
/-- hangings as numbers -/
def hgN (r : Row) (d : Nat) : Nat := rN r (114 + 10 * d)
theorem hgN_ok {r : Row} (ok : okRow r) {d : Nat} (hd : d < rN r 2) : r (114 + 10 * d) = nI (hgN r d) ∧ hgN r d < 4 := (ok.2.2.2.2.2.1 d hd).2.2.2.2.1
theorem op_10 {n : Nat} {h : gH} (R : Rel n h) (a : Nat → Int32) : OpOk n h (LS_10 n (n + 50) (n + 83) a) := by
  obtain ⟨F, g, xs, ms, rfl, R⟩ := R
  obtain ⟨ho, dy, r, m1, hl, R1, hr, hb, Z, e1, e2, ⟨hH, ok, hhg, -⟩, -⟩ := R.sit
  have hm := ok.2.2.1.2
  refine OpOk.two ?_
  unfold M_X1_clashes M_X10_clashes
  simp (disch := omega) only [x_I1, x_I14, x_I18, x_I19, x_I2, x_I20, x_I24, x_I25, x_I3, x_I31, x_I33, x_I38, x_I39, x_R0, x_R10, x_R12, x_R13, x_R15, x_R16, x_R17, x_R21, x_R22, x_R23, x_R26, x_R27, x_R28, x_R29, x_R30, x_R32, x_R34, x_R35, x_R36, x_R37, x_R4, x_R40, x_R41, x_R43, x_R44, x_R45, x_R5, x_R6, x_R7, x_R8, x_R9, x_chk, x_chk15, x_chk7, x_w0I3, x_w0I4, x_w0I5, x_w0R1, x_w0R2, x_w1I3, x_w1I4, x_w1I5, x_w1R1, x_w1R2, x_sI1, x_sI14, x_sI18, x_sI19, x_sI2, x_sI20, x_sI24, x_sI25, x_sI3, x_sI31, x_sI33, x_sI38, x_sI39, x_sR11, x_sR42, x_w0sI3, x_w0sI4, x_w0sI5, x_w0sR, x_w1sI3, x_w1sI4, x_w1sI5, x_w1sR, x_A1n, x_sA1n, x_A13n, x_sA13n, x_A14n, x_sA14n, x_A21n, x_sA21n, x_A22n, x_sA22n, x_A27n, x_sA27n, x_A28n, x_sA28n, x_A29n, x_sA29n, x_A30n, x_sA30n, x_A31n, x_sA31n, x_A32n, x_sA32n, x_A33n, x_sA33n, x_A34n, x_sA34n, x_A35n, x_sA35n, x_A36n, x_sA36n, x_A37n, x_sA37n, x_A38n, x_sA38n, x_A39n, x_sA39n, x_A40n, x_sA40n, x_A41n, x_sA41n, x_A42n, x_sA42n, x_A43n, x_sA43n, evq_lv, evq_pure, lvM, m_hasn, m_isIn, m_one, m_isHang, x_w0R0e, x_R11e, x_w1R0e, Option.elim_some, Mo.bind_assoc, Mo.pure_bind, Mo.bind_pure, lit, nI_add, nI_mul, nI_subn, le_t, le_f, lt_t, lt_f, eq_t, eq_f, eqm_f, ltz_f, cond_true, cond_false, if_true, if_false, tq_I, tq_L, tq_sI, tq_sL, tq_lv, tq_pure, lvT, TM.bind_assoc, TM.pure_bind, TM.bind_pure, te_An, te_Bn, te_sAn, te_sBn, t_doors, t_hasn, t_isIn, t_of0, t_of1, t_of2, t_of3, t_of4, t_of5, t_of6, t_of7, lit, nI_add, nI_mul, nI_subn, le_t, le_f, lt_t, lt_f, eq_t, eq_f, eqm_f, ltz_f, cond_true, cond_false, if_true, if_false]
  refine Two.r (laySwept_two R hl hr hb ok) fun _ m2 ⟨S, B⟩ => ?_
  have hr2 : m2.2.2.1 14 = r := (B.2.1 14 (by decide)).trans hr
  refine Two.r (P := fun _ m' => (∀ d, d < rN r 2 → m'.2.2.1 30 d = nI (hgN r d)) ∧ sameB [] [30] [] m2 m') ?_ fun _ m3 ⟨q1, B2⟩ => ?_
  · refine Ok.forTs (S := Int32) (fun i => nI i) (rN r 2) (fun i m' => (∀ d, d < i → m'.2.2.1 30 d = nI (hgN r d)) ∧ sameB [] [30] [] m2 m') (i := 0) rfl (by omega) ⟨fun d hd => by omega, sameB.rf⟩ (fun i m' hi hI => ?_) (fun m' hI => ?_)
    · obtain ⟨i1, i2⟩ := hI
      have hr3 : m'.2.2.1 14 = r := (i2.2.1 14 (by decide)).trans hr2
      simp (disch := omega) only [tq_I, tq_L, tq_sI, tq_sL, tq_lv, tq_pure, lvT, TM.bind_assoc, TM.pure_bind, TM.bind_pure, te_An, te_Bn, te_sAn, te_sBn, t_doors, t_hasn, t_isIn, t_of0, t_of1, t_of2, t_of3, t_of4, t_of5, t_of6, t_of7, lit, nI_add, nI_mul, nI_subn, le_t, le_f, lt_t, lt_f, eq_t, eq_f, eqm_f, ltz_f, cond_true, cond_false, if_true, if_false, hr3, ok.2.2.1.1, (hgN_ok ok hi).1]
      refine Ok.pT ⟨rfl, fun d hd => ?_, i2.uA (by decide)⟩
      rw [uA_22, va_eq]
      by_cases z : d = i
      · rw [z, va_eq]
      · rw [va_ne z]; exact i1 d (by omega)
    · obtain ⟨i1, i2⟩ := hI
      have hr3 : m'.2.2.1 14 = r := (i2.2.1 14 (by decide)).trans hr2
      simp (disch := omega) only [tq_I, tq_L, tq_sI, tq_sL, tq_lv, tq_pure, lvT, TM.bind_assoc, TM.pure_bind, TM.bind_pure, te_An, te_Bn, te_sAn, te_sBn, t_doors, t_hasn, t_isIn, t_of0, t_of1, t_of2, t_of3, t_of4, t_of5, t_of6, t_of7, lit, nI_add, nI_mul, nI_subn, le_t, le_f, lt_t, lt_f, eq_t, eq_f, eqm_f, ltz_f, cond_true, cond_false, if_true, if_false, hr3, ok.2.2.1.1]
      exact Ok.pT ⟨i1, i2⟩
  · have S3 : swOk m3 r (rN r 2) := ⟨fun d hd => by rw [B2.2.1 29 (by decide)]; exact S.1 d hd, fun d h hd hh => by rw [B2.2.2 27 (by decide), B2.2.2 28 (by decide)]; exact S.2 d h hd hh⟩
    refine Two.mk (pairs_run Z hH ok e1 x_at13 (fun d hd => ⟨(hhg d hd).trans (hgN_ok ok hd).1, (hgN_ok ok hd).2⟩)) (clashesOf_run ((B2.2.1 14 (by decide)).trans hr2) ok S3 (fun d hd => ⟨q1 d hd, (hgN_ok ok hd).2⟩)) ⟨rfl, F, g, xs, rfl, (R1.sm B (by decide) (by decide) (by decide)).sm B2 (by decide) (by decide) (by decide), by omega, by omega⟩
