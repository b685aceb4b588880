set_option maxRecDepth 100000
/-! ===== a set of cells has a cell ===== -/
theorem lg_cmpE (x y : Int64) : (lg_cmp x y = nI 0) ↔ x = y := by
  constructor
  · intro h
    unfold lg_cmp at h
    split at h
    · exact absurd h (by decide)
    · split at h
      · rename_i h1 h2; exact h2
      · exact absurd h (by decide)
  · intro h; subst h; exact lg_cmp_self x
theorem bitC_bit : ∀ c : Nat, c < 64 → ∀ i : Nat, i < 64 → (bitC c).toBitVec.getLsbD i = decide (i = c) := by decide +kernel
theorem low_bit : ∀ (L : List Nat) (v : Int64) (i : Nat), i < 64 → (L.foldl (fun v c => if c < 50 then v ||| bitC c else v) v).toBitVec.getLsbD i = (v.toBitVec.getLsbD i || decide (i < 50 ∧ i ∈ L))
  | [], v, i, _ => by simp
  | c :: L, v, i, hi => by
    rw [List.foldl_cons, low_bit L _ i hi]
    by_cases h : c < 50
    · rw [if_pos h, Int64.toBitVec_or, BitVec.getLsbD_or, bitC_bit c (by omega) i hi]
      by_cases z : i = c
      · subst z; simp [h]
      · simp [z]
    · rw [if_neg h]
      by_cases z : i = c
      · subst z; simp [h]
      · simp [z]
theorem high_bit : ∀ (L : List Nat) (v : Int64) (i : Nat), i < 50 → (∀ c ∈ L, c < 100) → (L.foldl (fun v c => if c < 50 then v else v ||| bitC (c - 50)) v).toBitVec.getLsbD i = (v.toBitVec.getLsbD i || decide (i + 50 ∈ L))
  | [], v, i, _, _ => by simp
  | c :: L, v, i, hi, hL => by
    have hc := hL c (by simp)
    rw [List.foldl_cons, high_bit L _ i hi (fun x hx => hL x (by simp [hx]))]
    by_cases h : c < 50
    · rw [if_pos h]
      have z : ¬ i + 50 = c := by omega
      simp [z]
    · rw [if_neg h, Int64.toBitVec_or, BitVec.getLsbD_or, bitC_bit (c - 50) (by omega) i (by omega)]
      by_cases z : i + 50 = c
      · have y : c - 50 = i := by omega
        simp [z, y]
      · have y : ¬ i = c - 50 := by omega
        simp [z, y]
theorem shr64 (x : Int64) (k : Nat) (hk : k < 50) : ((x >>> (Int64.ofNat k &&& 63)) &&& 1 = 1) ↔ x.toBitVec.getLsbD k = true := by
  have e3 : ((Int64.ofNat k &&& 63).toBitVec.smod 64).toNat = k := (show ∀ k : Nat, k < 50 → ((Int64.ofNat k &&& 63).toBitVec.smod 64#64).toNat = k by decide +kernel) k hk
  have b0 : (x >>> (Int64.ofNat k &&& 63)).toBitVec.getLsbD 0 = x.toBitVec.getLsbD k := by
    rw [Int64.toBitVec_shiftRight, BitVec.sshiftRight_eq', e3, BitVec.getLsbD_sshiftRight]
    have h1 : k < 64 := by omega
    simp [h1]
  have one : ∀ i : Nat, i < 64 → (1 : Int64).toBitVec.getLsbD i = decide (i = 0) := by decide +kernel
  rw [← b0]
  generalize x >>> (Int64.ofNat k &&& 63) = y
  constructor
  · intro e
    have := congrArg (fun z => z.toBitVec.getLsbD 0) e
    simp only [Int64.toBitVec_and, BitVec.getLsbD_and, one 0 (by decide)] at this
    simpa using this
  · intro e
    apply Int64.toBitVec_inj.mp
    apply BitVec.eq_of_getLsbD_eq
    intro i hi
    rw [Int64.toBitVec_and, BitVec.getLsbD_and, one i hi]
    by_cases z : i = 0
    · subst z; simp [e]
    · simp [z]
theorem hasC_run {F : Fz} {h : gH} {a : Nat} {L : List Nat} {b : Bool} (Z : Frz F h) (C : IsCells F a L b) (hL : ∀ c ∈ L, c < 100) {c : Nat} (hc : c < 100) : (M_X12_has a (nI c)).1 h = some (decide (c ∈ L), h) := by
  obtain ⟨q, f, c1, c2, c3⟩ := C
  unfold M_X12_has
  have fin : ∀ (x : Int64), ((x &&& 1 = 1) ↔ c ∈ L) → (if lg_cmp (x &&& 1) 1 = nI 0 then Mo.pure true else Mo.pure false : Mo Bool).1 h = some (decide (c ∈ L), h) := fun x hx => by
    by_cases z : c ∈ L
    · rw [if_pos ((lg_cmpE _ _).mpr (hx.mpr z)), decide_eq_true z]; rfl
    · rw [if_neg (fun y => z (hx.mp ((lg_cmpE _ _).mp y))), decide_eq_false z]; rfl
  rw [ev_chk (Z _ _ c1) (by decide)]
  by_cases h5 : c < 50
  · simp (disch := omega) only [x_I1, x_I14, x_I18, x_I19, x_I2, x_I20, x_I24, x_I25, x_I3, x_I31, x_I33, x_I38, x_I39, x_R0, x_R10, x_R12, x_R13, x_R15, x_R16, x_R17, x_R21, x_R22, x_R23, x_R26, x_R27, x_R28, x_R29, x_R30, x_R32, x_R34, x_R35, x_R36, x_R37, x_R4, x_R40, x_R41, x_R43, x_R44, x_R45, x_R5, x_R6, x_R7, x_R8, x_R9, x_chk, x_chk15, x_chk7, x_w0I3, x_w0I4, x_w0I5, x_w0R1, x_w0R2, x_w1I3, x_w1I4, x_w1I5, x_w1R1, x_w1R2, x_sI1, x_sI14, x_sI18, x_sI19, x_sI2, x_sI20, x_sI24, x_sI25, x_sI3, x_sI31, x_sI33, x_sI38, x_sI39, x_sR11, x_sR42, x_w0sI3, x_w0sI4, x_w0sI5, x_w0sR, x_w1sI3, x_w1sI4, x_w1sI5, x_w1sR, x_A1n, x_sA1n, x_A13n, x_sA13n, x_A14n, x_sA14n, x_A21n, x_sA21n, x_A22n, x_sA22n, x_A27n, x_sA27n, x_A28n, x_sA28n, x_A29n, x_sA29n, x_A30n, x_sA30n, x_A31n, x_sA31n, x_A32n, x_sA32n, x_A33n, x_sA33n, x_A34n, x_sA34n, x_A35n, x_sA35n, x_A36n, x_sA36n, x_A37n, x_sA37n, x_A38n, x_sA38n, x_A39n, x_sA39n, x_A40n, x_sA40n, x_A41n, x_sA41n, x_A42n, x_sA42n, x_A43n, x_sA43n, evq_lv, evq_pure, lvM, m_hasn, m_isIn, m_one, m_isHang, x_w0R0e, x_R11e, x_w1R0e, Option.elim_some, Mo.bind_assoc, Mo.pure_bind, Mo.bind_pure, lit, nI_add, nI_mul, nI_subn, le_t, le_f, lt_t, lt_f, eq_t, eq_f, eqm_f, ltz_f, cond_true, cond_false, if_true, if_false, ev_L (Z _ _ c1) (List.mem_singleton.mpr rfl) (k := 2) rfl, i64_nI]
    refine fin _ ?_
    rw [shr64 _ c h5]
    unfold bitsLow
    rw [low_bit L 0 c (by omega)]
    simp [h5]
  · simp (disch := omega) only [x_I1, x_I14, x_I18, x_I19, x_I2, x_I20, x_I24, x_I25, x_I3, x_I31, x_I33, x_I38, x_I39, x_R0, x_R10, x_R12, x_R13, x_R15, x_R16, x_R17, x_R21, x_R22, x_R23, x_R26, x_R27, x_R28, x_R29, x_R30, x_R32, x_R34, x_R35, x_R36, x_R37, x_R4, x_R40, x_R41, x_R43, x_R44, x_R45, x_R5, x_R6, x_R7, x_R8, x_R9, x_chk, x_chk15, x_chk7, x_w0I3, x_w0I4, x_w0I5, x_w0R1, x_w0R2, x_w1I3, x_w1I4, x_w1I5, x_w1R1, x_w1R2, x_sI1, x_sI14, x_sI18, x_sI19, x_sI2, x_sI20, x_sI24, x_sI25, x_sI3, x_sI31, x_sI33, x_sI38, x_sI39, x_sR11, x_sR42, x_w0sI3, x_w0sI4, x_w0sI5, x_w0sR, x_w1sI3, x_w1sI4, x_w1sI5, x_w1sR, x_A1n, x_sA1n, x_A13n, x_sA13n, x_A14n, x_sA14n, x_A21n, x_sA21n, x_A22n, x_sA22n, x_A27n, x_sA27n, x_A28n, x_sA28n, x_A29n, x_sA29n, x_A30n, x_sA30n, x_A31n, x_sA31n, x_A32n, x_sA32n, x_A33n, x_sA33n, x_A34n, x_sA34n, x_A35n, x_sA35n, x_A36n, x_sA36n, x_A37n, x_sA37n, x_A38n, x_sA38n, x_A39n, x_sA39n, x_A40n, x_sA40n, x_A41n, x_sA41n, x_A42n, x_sA42n, x_A43n, x_sA43n, evq_lv, evq_pure, lvM, m_hasn, m_isIn, m_one, m_isHang, x_w0R0e, x_R11e, x_w1R0e, Option.elim_some, Mo.bind_assoc, Mo.pure_bind, Mo.bind_pure, lit, nI_add, nI_mul, nI_subn, le_t, le_f, lt_t, lt_f, eq_t, eq_f, eqm_f, ltz_f, cond_true, cond_false, if_true, if_false, ev_L (Z _ _ c1) (List.mem_singleton.mpr rfl) (k := 3) rfl, i64_nI]
    refine fin _ ?_
    rw [shr64 _ (c - 50) (by omega)]
    unfold bitsHigh
    rw [high_bit L 0 (c - 50) (by omega) hL, show c - 50 + 50 = c by omega]
    simp
/-! ===== the two walkers: now (0), tried (1) ===== -/
def wA : Nat → Nat
  | 0 => 7
  | _ => 15
section
variable {n : Nat} {G : gH} {xs : XS} {β : Type} {j : Nat}
theorem k_chk (hj : j < 2) {f : Unit → Mo β} : (Mo.bind (chk [2] (n + wA j)) f).1 (mkX n G xs) = (f ()).1 (mkX n G xs) := by
  rcases (show j = 0 ∨ j = 1 by omega) with rfl | rfl
  · exact x_chk7
  · exact x_chk15
theorem k_R0 (hj : j < 2) {f : Nat → Mo β} : (Mo.bind (gR [2] (n + wA j) 0) f).1 (mkX n G xs) = Option.elim (xs.2.1 (200 + j)) none (fun v => (f v).1 (mkX n G xs)) := by
  rcases (show j = 0 ∨ j = 1 by omega) with rfl | rfl
  · exact x_w0R0e
  · exact x_w1R0e
theorem k_R1 (hj : j < 2) {f : Nat → Mo β} : (Mo.bind (gR [2] (n + wA j) 1) f).1 (mkX n G xs) = (f (n + (wA j + 6))).1 (mkX n G xs) := by
  rcases (show j = 0 ∨ j = 1 by omega) with rfl | rfl
  · exact x_w0R1
  · exact x_w1R1
theorem k_R2 (hj : j < 2) {f : Nat → Mo β} : (Mo.bind (gR [2] (n + wA j) 2) f).1 (mkX n G xs) = (f (n + (wA j + 7))).1 (mkX n G xs) := by
  rcases (show j = 0 ∨ j = 1 by omega) with rfl | rfl
  · exact x_w0R2
  · exact x_w1R2
theorem k_hg (hj : j < 2) {i : Nat} {f : Int32 → Mo β} (h : i < 10) : (Mo.bind (aldI 0 (n + (wA j + 6)) (nI i)) f).1 (mkX n G xs) = (f (xs.2.2.1 (200 + 10 * j) i)).1 (mkX n G xs) := by
  rcases (show j = 0 ∨ j = 1 by omega) with rfl | rfl
  · exact x_A13n h
  · exact x_A21n h
theorem k_an (hj : j < 2) {i : Nat} {f : Int32 → Mo β} (h : i < 10) : (Mo.bind (aldI 0 (n + (wA j + 7)) (nI i)) f).1 (mkX n G xs) = (f (xs.2.2.1 (201 + 10 * j) i)).1 (mkX n G xs) := by
  rcases (show j = 0 ∨ j = 1 by omega) with rfl | rfl
  · exact x_A14n h
  · exact x_A22n h
theorem k_san (hj : j < 2) {i : Nat} {v : Int32} {f : Unit → Mo β} (h : i < 10) : (Mo.bind (astI 0 (n + (wA j + 7)) (nI i) v) f).1 (mkX n G xs) = (f ()).1 (mkX n G (zA xs (201 + 10 * j) i v)) := by
  rcases (show j = 0 ∨ j = 1 by omega) with rfl | rfl
  · exact x_sA14n h
  · exact x_sA22n h
theorem k_I3 (hj : j < 2) {f : Int32 → Mo β} : (Mo.bind (gI [2] (n + wA j) 3) f).1 (mkX n G xs) = (f (xs.2.2.2.1 j 3)).1 (mkX n G xs) := by
  rcases (show j = 0 ∨ j = 1 by omega) with rfl | rfl
  · exact x_w0I3
  · exact x_w1I3
theorem k_I4 (hj : j < 2) {f : Int32 → Mo β} : (Mo.bind (gI [2] (n + wA j) 4) f).1 (mkX n G xs) = (f (xs.2.2.2.1 j 4)).1 (mkX n G xs) := by
  rcases (show j = 0 ∨ j = 1 by omega) with rfl | rfl
  · exact x_w0I4
  · exact x_w1I4
theorem k_I5 (hj : j < 2) {f : Int32 → Mo β} : (Mo.bind (gI [2] (n + wA j) 5) f).1 (mkX n G xs) = (f (xs.2.2.2.1 j 5)).1 (mkX n G xs) := by
  rcases (show j = 0 ∨ j = 1 by omega) with rfl | rfl
  · exact x_w0I5
  · exact x_w1I5
theorem k_sI3 (hj : j < 2) {v : Int32} {f : Unit → Mo β} : (Mo.bind (pF [2] (n + wA j) 3 (.int v)) f).1 (mkX n G xs) = (f ()).1 (mkX n G (zW xs j 3 v)) := by
  rcases (show j = 0 ∨ j = 1 by omega) with rfl | rfl
  · exact x_w0sI3
  · exact x_w1sI3
theorem k_sI4 (hj : j < 2) {v : Int32} {f : Unit → Mo β} : (Mo.bind (pF [2] (n + wA j) 4 (.int v)) f).1 (mkX n G xs) = (f ()).1 (mkX n G (zW xs j 4 v)) := by
  rcases (show j = 0 ∨ j = 1 by omega) with rfl | rfl
  · exact x_w0sI4
  · exact x_w1sI4
theorem k_sI5 (hj : j < 2) {v : Int32} {f : Unit → Mo β} : (Mo.bind (pF [2] (n + wA j) 5 (.int v)) f).1 (mkX n G xs) = (f ()).1 (mkX n G (zW xs j 5 v)) := by
  rcases (show j = 0 ∨ j = 1 by omega) with rfl | rfl
  · exact x_w0sI5
  · exact x_w1sI5
end
