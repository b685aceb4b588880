set_option maxRecDepth 100000
def anyN (p : Nat → Bool) : Nat → Bool
  | 0 => false
  | k + 1 => anyN p k || p k
theorem anyN_iff (p : Nat → Bool) : ∀ N, anyN p N = true ↔ ∃ k, k < N ∧ p k = true
  | 0 => by simp [anyN]
  | N + 1 => by
    unfold anyN
    rw [Bool.or_eq_true, anyN_iff p N]
    constructor
    · rintro (⟨k, h1, h2⟩ | h)
      · exact ⟨k, by omega, h2⟩
      · exact ⟨N, by omega, h⟩
    · rintro ⟨k, h1, h2⟩
      by_cases z : k = N
      · subst z; exact Or.inr h2
      · exact Or.inl ⟨k, by omega, h2⟩
theorem anyN_hit {p : Nat → Bool} {i N : Nat} (hi : i < N) (h : p i = true) : anyN p N = true := (anyN_iff p N).mpr ⟨i, hi, h⟩
theorem anyN_step {p : Nat → Bool} {i : Nat} (h : anyN p i = false) (h2 : p i = false) : anyN p (i + 1) = false := by unfold anyN; rw [h, h2]; rfl
theorem anyN_congr {p q : Nat → Bool} : ∀ N, (∀ i, i < N → p i = q i) → anyN p N = anyN q N
  | 0, _ => rfl
  | N + 1, h => by unfold anyN; rw [anyN_congr N (fun i hi => h i (by omega)), h N (by omega)]
/-! ===== what is so at hand: angles an, place p ===== -/
def lfD (r : Row) (an : Nat → Nat) (d : Nat) : List Nat := leafC r d (hgN r d) (an d)
def OW (r : Row) (an : Nat → Nat) (p : Int32) : Prop :=
  (∀ d, d < rN r 2 → an d ≤ 2 ∧ canB r d (hgN r d) (an d) = true) ∧
  (∀ d e, d < rN r 2 → e < rN r 2 → d ≠ e → ∀ c ∈ lfD r an d, c ∉ lfD r an e) ∧
  (p = -nI 1 ∨ ∃ x y, x < rN r 0 ∧ y < rN r 1 ∧ p = nI (10 * y + x) ∧ (r (10 + (10 * y + x)) = 0 ∨ 0 < r (210 + (10 * y + x))))
def WX (j ho : Nat) (r : Row) (an : Nat → Nat) (p : Int32) (xs : XS) : Prop := xs.2.1 (200 + j) = some ho ∧ (∀ d, d < rN r 2 → xs.2.2.1 (200 + 10 * j) d = nI (hgN r d)) ∧ (∀ d, d < rN r 2 → xs.2.2.1 (201 + 10 * j) d = nI (an d)) ∧ xs.2.2.2.1 j 3 = p
def LO (r : Row) (an : Nat → Nat) (m : MS) (i : Nat) : Prop := ∀ c, c < 100 → (m.2.2.1 44 c = nI 0 ∧ ∀ d, d < i → c ∉ lfD r an d) ∨ ∃ d, d < i ∧ m.2.2.1 44 c = nI (d + 1) ∧ c ∈ lfD r an d
def WM (r : Row) (an : Nat → Nat) (p : Int32) (m : MS) : Prop := m.2.2.1 14 = r ∧ (∀ d, d < rN r 2 → m.2.2.1 43 d = nI (an d)) ∧ m.1 45 = p ∧ LO r an m (rN r 2)
/-- whether a leaf of a door but one is on a cell -/
def lfB (r : Row) (an : Nat → Nat) (but c : Nat) : Bool := anyN (fun d => decide (d ≠ but) && decide (c ∈ lfD r an d)) (rN r 2)
theorem leafC_100 {r : Row} {d h a : Nat} : ∀ c ∈ leafC r d h a, c < 100 := fun c hc => (leafC_mem.mp hc).1
theorem leaf0_in {r : Row} (ok : okRow r) {d : Nat} (hd : d < rN r 2) (h : Nat) : ∀ p ∈ leafL r d h 0, inH r p = true := fun p hp => ((ok.2.2.2.2.2.1 d hd).2.2.2.2.2.2.2.2 p ((leaf0_iff r d h p).mp hp)).1
theorem leaf_in {r : Row} (ok : okRow r) {d : Nat} (hd : d < rN r 2) {h a : Nat} (hc : canB r d h a = true) : ∀ p ∈ leafL r d h a, inH r p = true := by
  by_cases z : a = 0
  · subst z; exact leaf0_in ok hd h
  · intro p hp
    unfold canB freeL at hc
    simp only [z, beq_iff_eq, Bool.or_eq_true, false_or, List.all_eq_true, Bool.and_eq_true] at hc
    exact (hc p hp).1
theorem inH_inG {r : Row} (ok : okRow r) {p : Int × Int} (h : inH r p = true) : inG p = true := by
  have := ok.1.2
  have := ok.2.1.2
  unfold inH at h
  unfold inG
  simp only [Bool.and_eq_true, decide_eq_true_eq] at h ⊢
  omega
theorem leafC_map {r : Row} (ok : okRow r) {d : Nat} (hd : d < rN r 2) {h a : Nat} (hc : canB r d h a = true) : leafC r d h a = (leafL r d h a).map cellN := by
  unfold leafC
  rw [List.filter_eq_self.mpr (fun p hp => inH_inG ok (leaf_in ok hd hc p hp))]
section
variable {n : Nat} {F : Fz} {G : gH} {ho : Nat} {r : Row} {nm : Nat → Int64} {xs : XS} {j : Nat} {an : Nat → Nat} {p : Int32}
theorem kleaf_run (Z : FrzX n F G) (H : IsHouse F ho r nm) (ok : okRow r) (hj : j < 2) (W : WX j ho r an p xs) (O : OW r an p) {d : Nat} (hd : d < rN r 2) : ∃ q b, IsCells F q (lfD r an d) b ∧ (M_X3_leaf (n + wA j) (nI d)).1 (mkX n G xs) = some (q, mkX n G xs) := by
  have hm := ok.2.2.1.2
  obtain ⟨w1, w2, w3, w4⟩ := W
  obtain ⟨h1, h2⟩ := hgN_ok ok hd
  have a2 := (O.1 d hd).1
  obtain ⟨q, D, e3⟩ := hs_door (Z xs) H hd hm
  obtain ⟨c, C, e4⟩ := dleaf_run (Z xs) D h2 (a := an d) (by omega)
  refine ⟨c, _, C, ?_⟩
  unfold M_X3_leaf
  simp (disch := omega) only [x_I1, x_I14, x_I18, x_I19, x_I2, x_I20, x_I24, x_I25, x_I3, x_I31, x_I33, x_I38, x_I39, x_R0, x_R10, x_R12, x_R13, x_R15, x_R16, x_R17, x_R21, x_R22, x_R23, x_R26, x_R27, x_R28, x_R29, x_R30, x_R32, x_R34, x_R35, x_R36, x_R37, x_R4, x_R40, x_R41, x_R43, x_R44, x_R45, x_R5, x_R6, x_R7, x_R8, x_R9, x_chk, x_chk15, x_chk7, x_w0I3, x_w0I4, x_w0I5, x_w0R1, x_w0R2, x_w1I3, x_w1I4, x_w1I5, x_w1R1, x_w1R2, x_sI1, x_sI14, x_sI18, x_sI19, x_sI2, x_sI20, x_sI24, x_sI25, x_sI3, x_sI31, x_sI33, x_sI38, x_sI39, x_sR11, x_sR42, x_w0sI3, x_w0sI4, x_w0sI5, x_w0sR, x_w1sI3, x_w1sI4, x_w1sI5, x_w1sR, x_A1n, x_sA1n, x_A13n, x_sA13n, x_A14n, x_sA14n, x_A21n, x_sA21n, x_A22n, x_sA22n, x_A27n, x_sA27n, x_A28n, x_sA28n, x_A29n, x_sA29n, x_A30n, x_sA30n, x_A31n, x_sA31n, x_A32n, x_sA32n, x_A33n, x_sA33n, x_A34n, x_sA34n, x_A35n, x_sA35n, x_A36n, x_sA36n, x_A37n, x_sA37n, x_A38n, x_sA38n, x_A39n, x_sA39n, x_A40n, x_sA40n, x_A41n, x_sA41n, x_A42n, x_sA42n, x_A43n, x_sA43n, evq_lv, evq_pure, lvM, m_hasn, m_isIn, m_one, m_isHang, x_w0R0e, x_R11e, x_w1R0e, Option.elim_some, Mo.bind_assoc, Mo.pure_bind, Mo.bind_pure, lit, nI_add, nI_mul, nI_subn, le_t, le_f, lt_t, lt_f, eq_t, eq_f, eqm_f, ltz_f, cond_true, cond_false, if_true, if_false, k_chk hj, k_R0 hj, k_R1 hj, k_R2 hj, k_hg hj, k_an hj, w1, e3, w2 d hd, w3 d hd, e4]
theorem isLeaf_run (Z : FrzX n F G) (H : IsHouse F ho r nm) (ok : okRow r) (hj : j < 2) (W : WX j ho r an p xs) (O : OW r an p) {c but : Nat} (hc : c < 100) {b : Int32} (hb : ∀ d, d < rN r 2 → (nI d = b ↔ d = but)) : (M_X3_isLeaf (n + wA j) (nI c) b).1 (mkX n G xs) = some (lfB r an but c, mkX n G xs) := by
  have hm := ok.2.2.1.2
  suffices h : Ok ((M_X3_isLeaf (n + wA j) (nI c) b).1 (mkX n G xs)) (fun v h' => v = lfB r an but c ∧ h' = mkX n G xs) by
    obtain ⟨v, h', e, rfl, rfl⟩ := h
    exact e
  have W0 := W
  obtain ⟨w1, w2, w3, w4⟩ := W0
  unfold M_X3_isLeaf
  simp (disch := omega) only [x_I1, x_I14, x_I18, x_I19, x_I2, x_I20, x_I24, x_I25, x_I3, x_I31, x_I33, x_I38, x_I39, x_R0, x_R10, x_R12, x_R13, x_R15, x_R16, x_R17, x_R21, x_R22, x_R23, x_R26, x_R27, x_R28, x_R29, x_R30, x_R32, x_R34, x_R35, x_R36, x_R37, x_R4, x_R40, x_R41, x_R43, x_R44, x_R45, x_R5, x_R6, x_R7, x_R8, x_R9, x_chk, x_chk15, x_chk7, x_w0I3, x_w0I4, x_w0I5, x_w0R1, x_w0R2, x_w1I3, x_w1I4, x_w1I5, x_w1R1, x_w1R2, x_sI1, x_sI14, x_sI18, x_sI19, x_sI2, x_sI20, x_sI24, x_sI25, x_sI3, x_sI31, x_sI33, x_sI38, x_sI39, x_sR11, x_sR42, x_w0sI3, x_w0sI4, x_w0sI5, x_w0sR, x_w1sI3, x_w1sI4, x_w1sI5, x_w1sR, x_A1n, x_sA1n, x_A13n, x_sA13n, x_A14n, x_sA14n, x_A21n, x_sA21n, x_A22n, x_sA22n, x_A27n, x_sA27n, x_A28n, x_sA28n, x_A29n, x_sA29n, x_A30n, x_sA30n, x_A31n, x_sA31n, x_A32n, x_sA32n, x_A33n, x_sA33n, x_A34n, x_sA34n, x_A35n, x_sA35n, x_A36n, x_sA36n, x_A37n, x_sA37n, x_A38n, x_sA38n, x_A39n, x_sA39n, x_A40n, x_sA40n, x_A41n, x_sA41n, x_A42n, x_sA42n, x_A43n, x_sA43n, evq_lv, evq_pure, lvM, m_hasn, m_isIn, m_one, m_isHang, x_w0R0e, x_R11e, x_w1R0e, Option.elim_some, Mo.bind_assoc, Mo.pure_bind, Mo.bind_pure, lit, nI_add, nI_mul, nI_subn, le_t, le_f, lt_t, lt_f, eq_t, eq_f, eqm_f, ltz_f, cond_true, cond_false, if_true, if_false, k_chk hj]
  refine Ok.forMs (S := Int32) (fun i => nI i) (rN r 2) (fun i h' => h' = mkX n G xs ∧ anyN (fun d => decide (d ≠ but) && decide (c ∈ lfD r an d)) i = false) (i := 0) rfl (by omega) ⟨rfl, rfl⟩ (fun i h' hi hI => ?_) (fun h' hI => ?_)
  · obtain ⟨rfl, hA⟩ := hI
    by_cases z : i = but
    · simp (disch := omega) only [x_I1, x_I14, x_I18, x_I19, x_I2, x_I20, x_I24, x_I25, x_I3, x_I31, x_I33, x_I38, x_I39, x_R0, x_R10, x_R12, x_R13, x_R15, x_R16, x_R17, x_R21, x_R22, x_R23, x_R26, x_R27, x_R28, x_R29, x_R30, x_R32, x_R34, x_R35, x_R36, x_R37, x_R4, x_R40, x_R41, x_R43, x_R44, x_R45, x_R5, x_R6, x_R7, x_R8, x_R9, x_chk, x_chk15, x_chk7, x_w0I3, x_w0I4, x_w0I5, x_w0R1, x_w0R2, x_w1I3, x_w1I4, x_w1I5, x_w1R1, x_w1R2, x_sI1, x_sI14, x_sI18, x_sI19, x_sI2, x_sI20, x_sI24, x_sI25, x_sI3, x_sI31, x_sI33, x_sI38, x_sI39, x_sR11, x_sR42, x_w0sI3, x_w0sI4, x_w0sI5, x_w0sR, x_w1sI3, x_w1sI4, x_w1sI5, x_w1sR, x_A1n, x_sA1n, x_A13n, x_sA13n, x_A14n, x_sA14n, x_A21n, x_sA21n, x_A22n, x_sA22n, x_A27n, x_sA27n, x_A28n, x_sA28n, x_A29n, x_sA29n, x_A30n, x_sA30n, x_A31n, x_sA31n, x_A32n, x_sA32n, x_A33n, x_sA33n, x_A34n, x_sA34n, x_A35n, x_sA35n, x_A36n, x_sA36n, x_A37n, x_sA37n, x_A38n, x_sA38n, x_A39n, x_sA39n, x_A40n, x_sA40n, x_A41n, x_sA41n, x_A42n, x_sA42n, x_A43n, x_sA43n, evq_lv, evq_pure, lvM, m_hasn, m_isIn, m_one, m_isHang, x_w0R0e, x_R11e, x_w1R0e, Option.elim_some, Mo.bind_assoc, Mo.pure_bind, Mo.bind_pure, lit, nI_add, nI_mul, nI_subn, le_t, le_f, lt_t, lt_f, eq_t, eq_f, eqm_f, ltz_f, cond_true, cond_false, if_true, if_false, k_R0 hj, w1, hs_many (Z _) H, ok.2.2.1.1, if_pos ((hb i hi).mpr z)]
      exact Ok.pM ⟨rfl, rfl, anyN_step hA (by simp [z])⟩
    · obtain ⟨q, b', C, e⟩ := kleaf_run Z H ok hj W O hi
      have hh := hasC_run (Z xs) C leafC_100 hc
      simp (disch := omega) only [x_I1, x_I14, x_I18, x_I19, x_I2, x_I20, x_I24, x_I25, x_I3, x_I31, x_I33, x_I38, x_I39, x_R0, x_R10, x_R12, x_R13, x_R15, x_R16, x_R17, x_R21, x_R22, x_R23, x_R26, x_R27, x_R28, x_R29, x_R30, x_R32, x_R34, x_R35, x_R36, x_R37, x_R4, x_R40, x_R41, x_R43, x_R44, x_R45, x_R5, x_R6, x_R7, x_R8, x_R9, x_chk, x_chk15, x_chk7, x_w0I3, x_w0I4, x_w0I5, x_w0R1, x_w0R2, x_w1I3, x_w1I4, x_w1I5, x_w1R1, x_w1R2, x_sI1, x_sI14, x_sI18, x_sI19, x_sI2, x_sI20, x_sI24, x_sI25, x_sI3, x_sI31, x_sI33, x_sI38, x_sI39, x_sR11, x_sR42, x_w0sI3, x_w0sI4, x_w0sI5, x_w0sR, x_w1sI3, x_w1sI4, x_w1sI5, x_w1sR, x_A1n, x_sA1n, x_A13n, x_sA13n, x_A14n, x_sA14n, x_A21n, x_sA21n, x_A22n, x_sA22n, x_A27n, x_sA27n, x_A28n, x_sA28n, x_A29n, x_sA29n, x_A30n, x_sA30n, x_A31n, x_sA31n, x_A32n, x_sA32n, x_A33n, x_sA33n, x_A34n, x_sA34n, x_A35n, x_sA35n, x_A36n, x_sA36n, x_A37n, x_sA37n, x_A38n, x_sA38n, x_A39n, x_sA39n, x_A40n, x_sA40n, x_A41n, x_sA41n, x_A42n, x_sA42n, x_A43n, x_sA43n, evq_lv, evq_pure, lvM, m_hasn, m_isIn, m_one, m_isHang, x_w0R0e, x_R11e, x_w1R0e, Option.elim_some, Mo.bind_assoc, Mo.pure_bind, Mo.bind_pure, lit, nI_add, nI_mul, nI_subn, le_t, le_f, lt_t, lt_f, eq_t, eq_f, eqm_f, ltz_f, cond_true, cond_false, if_true, if_false, k_R0 hj, w1, hs_many (Z _) H, ok.2.2.1.1, if_neg (fun y => z ((hb i hi).mp y)), ev_call e, ev_call hh]
      by_cases y : c ∈ lfD r an i
      · simp only [y, decide_true, cond_true]
        exact Ok.pM ⟨(anyN_hit (p := fun d => decide (d ≠ but) && decide (c ∈ lfD r an d)) hi (by simp [z, y])).symm, rfl⟩
      · simp only [y, decide_false, cond_false]
        exact Ok.pM ⟨rfl, rfl, anyN_step hA (by simp [y])⟩
  · obtain ⟨rfl, hA⟩ := hI
    simp (disch := omega) only [x_I1, x_I14, x_I18, x_I19, x_I2, x_I20, x_I24, x_I25, x_I3, x_I31, x_I33, x_I38, x_I39, x_R0, x_R10, x_R12, x_R13, x_R15, x_R16, x_R17, x_R21, x_R22, x_R23, x_R26, x_R27, x_R28, x_R29, x_R30, x_R32, x_R34, x_R35, x_R36, x_R37, x_R4, x_R40, x_R41, x_R43, x_R44, x_R45, x_R5, x_R6, x_R7, x_R8, x_R9, x_chk, x_chk15, x_chk7, x_w0I3, x_w0I4, x_w0I5, x_w0R1, x_w0R2, x_w1I3, x_w1I4, x_w1I5, x_w1R1, x_w1R2, x_sI1, x_sI14, x_sI18, x_sI19, x_sI2, x_sI20, x_sI24, x_sI25, x_sI3, x_sI31, x_sI33, x_sI38, x_sI39, x_sR11, x_sR42, x_w0sI3, x_w0sI4, x_w0sI5, x_w0sR, x_w1sI3, x_w1sI4, x_w1sI5, x_w1sR, x_A1n, x_sA1n, x_A13n, x_sA13n, x_A14n, x_sA14n, x_A21n, x_sA21n, x_A22n, x_sA22n, x_A27n, x_sA27n, x_A28n, x_sA28n, x_A29n, x_sA29n, x_A30n, x_sA30n, x_A31n, x_sA31n, x_A32n, x_sA32n, x_A33n, x_sA33n, x_A34n, x_sA34n, x_A35n, x_sA35n, x_A36n, x_sA36n, x_A37n, x_sA37n, x_A38n, x_sA38n, x_A39n, x_sA39n, x_A40n, x_sA40n, x_A41n, x_sA41n, x_A42n, x_sA42n, x_A43n, x_sA43n, evq_lv, evq_pure, lvM, m_hasn, m_isIn, m_one, m_isHang, x_w0R0e, x_R11e, x_w1R0e, Option.elim_some, Mo.bind_assoc, Mo.pure_bind, Mo.bind_pure, lit, nI_add, nI_mul, nI_subn, le_t, le_f, lt_t, lt_f, eq_t, eq_f, eqm_f, ltz_f, cond_true, cond_false, if_true, if_false, k_R0 hj, w1, hs_many (Z _) H, ok.2.2.1.1]
    exact Ok.pM ⟨hA.symm, rfl⟩
/-! ===== why a leaf can't come to an angle ===== -/
def hitB (r : Row) (an : Nat → Nat) (p : Int32) (d to : Nat) : Bool := (leafC r d (hgN r d) to).any (fun c => decide (nI c = p) || lfB r an d c)
def barI (r : Row) (an : Nat → Nat) (p : Int32) (d to : Nat) : Int32 := if canB r d (hgN r d) to then (if hitB r an p d to then nI 7 else nI 0) else nI 6
theorem any_mem {L M : List Nat} (h : ∀ x, x ∈ L ↔ x ∈ M) (f : Nat → Bool) : L.any f = M.any f := by
  rw [Bool.eq_iff_iff, List.any_eq_true, List.any_eq_true]
  constructor
  · rintro ⟨x, h1, h2⟩; exact ⟨x, (h x).mp h1, h2⟩
  · rintro ⟨x, h1, h2⟩; exact ⟨x, (h x).mpr h1, h2⟩
def atN (L : List Nat) (i : Nat) : Int32 := match L[i]? with
  | some c => nI c
  | none => -nI 1
theorem atN_t {L : List Nat} {i : Nat} (h : i < L.length) : atN L i = nI L[i] := by unfold atN; rw [List.getElem?_eq_getElem h]
theorem atN_f {L : List Nat} {i : Nat} (h : L.length ≤ i) : atN L i = -nI 1 := by unfold atN; rw [List.getElem?_eq_none h]
theorem getC_n {F : Fz} {h : gH} {a : Nat} {L : List Nat} {b : Bool} (Z : Frz F h) (C : IsCells F a L b) (h9 : (srt L).length ≤ 9) {i : Nat} (hi : i ≤ 9) : (M_X12_get a (nI i)).1 h = some (atN (srt L) i, h) := by
  rw [getC_run Z C h9, nth_get i (by omega) _ 0 (by omega) (by omega), Nat.sub_zero]
  unfold atN
  cases (srt L)[i]? <;> rfl
theorem bar_run (Z : FrzX n F G) (H : IsHouse F ho r nm) (ok : okRow r) (hj : j < 2) (W : WX j ho r an p xs) (O : OW r an p) {d to : Nat} (hd : d < rN r 2) (hto : to ≤ 2) : (M_X3_bar (n + wA j) (nI d) (nI to)).1 (mkX n G xs) = some (barI r an p d to, mkX n G xs) := by
  have hm := ok.2.2.1.2
  have W0 := W
  obtain ⟨w1, w2, w3, w4⟩ := W0
  obtain ⟨h1, h2⟩ := hgN_ok ok hd
  obtain ⟨q, D, e3⟩ := hs_door (Z xs) H hd hm
  have ec := dcan_run (Z xs) D h2 (a := to) (by omega)
  obtain ⟨c, C, e4⟩ := dleaf_run (Z xs) D h2 (a := to) (by omega)
  have h9 : (srt (leafC r d (hgN r d) to)).length ≤ 9 := Nat.le_trans (srt_len _) (Nat.le_trans (leafC_len ok hd _ _) (by decide))
  have lt : ∀ x ∈ srt (leafC r d (hgN r d) to), x < 100 := fun x hx => leafC_100 x ((srt_mem _ _).mp hx)
  have ea : (srt (leafC r d (hgN r d) to)).any (fun c => decide (nI c = p) || lfB r an d c) = hitB r an p d to := any_mem (srt_mem _) _
  unfold M_X3_bar barI
  simp (disch := omega) only [x_I1, x_I14, x_I18, x_I19, x_I2, x_I20, x_I24, x_I25, x_I3, x_I31, x_I33, x_I38, x_I39, x_R0, x_R10, x_R12, x_R13, x_R15, x_R16, x_R17, x_R21, x_R22, x_R23, x_R26, x_R27, x_R28, x_R29, x_R30, x_R32, x_R34, x_R35, x_R36, x_R37, x_R4, x_R40, x_R41, x_R43, x_R44, x_R45, x_R5, x_R6, x_R7, x_R8, x_R9, x_chk, x_chk15, x_chk7, x_w0I3, x_w0I4, x_w0I5, x_w0R1, x_w0R2, x_w1I3, x_w1I4, x_w1I5, x_w1R1, x_w1R2, x_sI1, x_sI14, x_sI18, x_sI19, x_sI2, x_sI20, x_sI24, x_sI25, x_sI3, x_sI31, x_sI33, x_sI38, x_sI39, x_sR11, x_sR42, x_w0sI3, x_w0sI4, x_w0sI5, x_w0sR, x_w1sI3, x_w1sI4, x_w1sI5, x_w1sR, x_A1n, x_sA1n, x_A13n, x_sA13n, x_A14n, x_sA14n, x_A21n, x_sA21n, x_A22n, x_sA22n, x_A27n, x_sA27n, x_A28n, x_sA28n, x_A29n, x_sA29n, x_A30n, x_sA30n, x_A31n, x_sA31n, x_A32n, x_sA32n, x_A33n, x_sA33n, x_A34n, x_sA34n, x_A35n, x_sA35n, x_A36n, x_sA36n, x_A37n, x_sA37n, x_A38n, x_sA38n, x_A39n, x_sA39n, x_A40n, x_sA40n, x_A41n, x_sA41n, x_A42n, x_sA42n, x_A43n, x_sA43n, evq_lv, evq_pure, lvM, m_hasn, m_isIn, m_one, m_isHang, x_w0R0e, x_R11e, x_w1R0e, Option.elim_some, Mo.bind_assoc, Mo.pure_bind, Mo.bind_pure, lit, nI_add, nI_mul, nI_subn, le_t, le_f, lt_t, lt_f, eq_t, eq_f, eqm_f, ltz_f, cond_true, cond_false, if_true, if_false, k_chk hj, k_R0 hj, k_R1 hj, k_hg hj, w1, e3, w2 d hd, ev_call ec]
  cases canB r d (hgN r d) to with
  | false => rfl
  | true =>
    have gr : ∀ i : Nat, i ≤ 9 → (M_X12_get c (nI i)).1 (mkX n G xs) = some (atN (srt (leafC r d (hgN r d) to)) i, mkX n G xs) := fun i hi => getC_n (Z xs) C h9 hi
    have g0 := gr 0 (by omega)
    simp (disch := omega) only [x_I1, x_I14, x_I18, x_I19, x_I2, x_I20, x_I24, x_I25, x_I3, x_I31, x_I33, x_I38, x_I39, x_R0, x_R10, x_R12, x_R13, x_R15, x_R16, x_R17, x_R21, x_R22, x_R23, x_R26, x_R27, x_R28, x_R29, x_R30, x_R32, x_R34, x_R35, x_R36, x_R37, x_R4, x_R40, x_R41, x_R43, x_R44, x_R45, x_R5, x_R6, x_R7, x_R8, x_R9, x_chk, x_chk15, x_chk7, x_w0I3, x_w0I4, x_w0I5, x_w0R1, x_w0R2, x_w1I3, x_w1I4, x_w1I5, x_w1R1, x_w1R2, x_sI1, x_sI14, x_sI18, x_sI19, x_sI2, x_sI20, x_sI24, x_sI25, x_sI3, x_sI31, x_sI33, x_sI38, x_sI39, x_sR11, x_sR42, x_w0sI3, x_w0sI4, x_w0sI5, x_w0sR, x_w1sI3, x_w1sI4, x_w1sI5, x_w1sR, x_A1n, x_sA1n, x_A13n, x_sA13n, x_A14n, x_sA14n, x_A21n, x_sA21n, x_A22n, x_sA22n, x_A27n, x_sA27n, x_A28n, x_sA28n, x_A29n, x_sA29n, x_A30n, x_sA30n, x_A31n, x_sA31n, x_A32n, x_sA32n, x_A33n, x_sA33n, x_A34n, x_sA34n, x_A35n, x_sA35n, x_A36n, x_sA36n, x_A37n, x_sA37n, x_A38n, x_sA38n, x_A39n, x_sA39n, x_A40n, x_sA40n, x_A41n, x_sA41n, x_A42n, x_sA42n, x_A43n, x_sA43n, evq_lv, evq_pure, lvM, m_hasn, m_isIn, m_one, m_isHang, x_w0R0e, x_R11e, x_w1R0e, Option.elim_some, Mo.bind_assoc, Mo.pure_bind, Mo.bind_pure, lit, nI_add, nI_mul, nI_subn, le_t, le_f, lt_t, lt_f, eq_t, eq_f, eqm_f, ltz_f, cond_true, cond_false, if_true, if_false, k_R0 hj, k_R1 hj, k_hg hj, w1, e3, w2 d hd, ev_call e4, ev_call g0]
    rw [← ea]
    generalize hL : srt (leafC r d (hgN r d) to) = L at h9 lt gr
    suffices h : Ok ((Mo.loop (S := Int32 × Int32) (fun s14 => if s14.2 = -nI 1 then Mo.pure (Sum.inr (nI 0)) else Mo.bind (gI [2] (n + wA j) 3) (fun v17 => if s14.2 = v17 then Mo.pure (Sum.inr (nI 7)) else Mo.bind (M_X3_isLeaf (n + wA j) s14.2 (nI d)) (fun v18 => cond v18 (Mo.pure (Sum.inr (nI 7))) (Mo.lv (s14.1 + nI 1) (fun v19 => Mo.bind (M_X12_get c v19) (fun v20 => Mo.pure (Sum.inl (v19, v20)))))))) (nI 0, atN L 0)).1 (mkX n G xs)) (fun v h' => v = (if L.any (fun c => decide (nI c = p) || lfB r an d c) = true then nI 7 else nI 0) ∧ h' = mkX n G xs) by
      obtain ⟨v, h', e, rfl, rfl⟩ := h
      exact e
    refine Ok.loopM (S := Int32 × Int32) (E := Int32) (fun k s h' => ∃ i, i + k = L.length ∧ s = (nI i, atN L i) ∧ h' = mkX n G xs ∧ ∀ x ∈ L.take i, (decide (nI x = p) || lfB r an d x) = false) (fun k s h' hI => ?_) L.length _ _ ⟨0, by omega, rfl, rfl, fun x hx => by simp at hx⟩
    obtain ⟨i, hk, rfl, rfl, hA⟩ := hI
    dsimp only
    by_cases hi : i < L.length
    · have hx := lt L[i] (List.getElem_mem hi)
      have il := isLeaf_run Z H ok hj W O (c := L[i]) (but := d) hx (b := nI d) (fun e he => nI_inj (by omega) (by omega))
      have yes : (decide (nI L[i] = p) || lfB r an d L[i]) = true → L.any (fun c => decide (nI c = p) || lfB r an d c) = true := fun z => List.any_eq_true.mpr ⟨L[i], List.getElem_mem hi, z⟩
      rw [atN_t hi]
      by_cases z1 : nI L[i] = p
      · simp (disch := omega) only [x_I1, x_I14, x_I18, x_I19, x_I2, x_I20, x_I24, x_I25, x_I3, x_I31, x_I33, x_I38, x_I39, x_R0, x_R10, x_R12, x_R13, x_R15, x_R16, x_R17, x_R21, x_R22, x_R23, x_R26, x_R27, x_R28, x_R29, x_R30, x_R32, x_R34, x_R35, x_R36, x_R37, x_R4, x_R40, x_R41, x_R43, x_R44, x_R45, x_R5, x_R6, x_R7, x_R8, x_R9, x_chk, x_chk15, x_chk7, x_w0I3, x_w0I4, x_w0I5, x_w0R1, x_w0R2, x_w1I3, x_w1I4, x_w1I5, x_w1R1, x_w1R2, x_sI1, x_sI14, x_sI18, x_sI19, x_sI2, x_sI20, x_sI24, x_sI25, x_sI3, x_sI31, x_sI33, x_sI38, x_sI39, x_sR11, x_sR42, x_w0sI3, x_w0sI4, x_w0sI5, x_w0sR, x_w1sI3, x_w1sI4, x_w1sI5, x_w1sR, x_A1n, x_sA1n, x_A13n, x_sA13n, x_A14n, x_sA14n, x_A21n, x_sA21n, x_A22n, x_sA22n, x_A27n, x_sA27n, x_A28n, x_sA28n, x_A29n, x_sA29n, x_A30n, x_sA30n, x_A31n, x_sA31n, x_A32n, x_sA32n, x_A33n, x_sA33n, x_A34n, x_sA34n, x_A35n, x_sA35n, x_A36n, x_sA36n, x_A37n, x_sA37n, x_A38n, x_sA38n, x_A39n, x_sA39n, x_A40n, x_sA40n, x_A41n, x_sA41n, x_A42n, x_sA42n, x_A43n, x_sA43n, evq_lv, evq_pure, lvM, m_hasn, m_isIn, m_one, m_isHang, x_w0R0e, x_R11e, x_w1R0e, Option.elim_some, Mo.bind_assoc, Mo.pure_bind, Mo.bind_pure, lit, nI_add, nI_mul, nI_subn, le_t, le_f, lt_t, lt_f, eq_t, eq_f, eqm_f, ltz_f, cond_true, cond_false, if_true, if_false, k_I3 hj, w4, if_pos z1]
        exact Ok.pM ⟨by rw [if_pos (yes (by simp [z1]))], rfl⟩
      · simp (disch := omega) only [x_I1, x_I14, x_I18, x_I19, x_I2, x_I20, x_I24, x_I25, x_I3, x_I31, x_I33, x_I38, x_I39, x_R0, x_R10, x_R12, x_R13, x_R15, x_R16, x_R17, x_R21, x_R22, x_R23, x_R26, x_R27, x_R28, x_R29, x_R30, x_R32, x_R34, x_R35, x_R36, x_R37, x_R4, x_R40, x_R41, x_R43, x_R44, x_R45, x_R5, x_R6, x_R7, x_R8, x_R9, x_chk, x_chk15, x_chk7, x_w0I3, x_w0I4, x_w0I5, x_w0R1, x_w0R2, x_w1I3, x_w1I4, x_w1I5, x_w1R1, x_w1R2, x_sI1, x_sI14, x_sI18, x_sI19, x_sI2, x_sI20, x_sI24, x_sI25, x_sI3, x_sI31, x_sI33, x_sI38, x_sI39, x_sR11, x_sR42, x_w0sI3, x_w0sI4, x_w0sI5, x_w0sR, x_w1sI3, x_w1sI4, x_w1sI5, x_w1sR, x_A1n, x_sA1n, x_A13n, x_sA13n, x_A14n, x_sA14n, x_A21n, x_sA21n, x_A22n, x_sA22n, x_A27n, x_sA27n, x_A28n, x_sA28n, x_A29n, x_sA29n, x_A30n, x_sA30n, x_A31n, x_sA31n, x_A32n, x_sA32n, x_A33n, x_sA33n, x_A34n, x_sA34n, x_A35n, x_sA35n, x_A36n, x_sA36n, x_A37n, x_sA37n, x_A38n, x_sA38n, x_A39n, x_sA39n, x_A40n, x_sA40n, x_A41n, x_sA41n, x_A42n, x_sA42n, x_A43n, x_sA43n, evq_lv, evq_pure, lvM, m_hasn, m_isIn, m_one, m_isHang, x_w0R0e, x_R11e, x_w1R0e, Option.elim_some, Mo.bind_assoc, Mo.pure_bind, Mo.bind_pure, lit, nI_add, nI_mul, nI_subn, le_t, le_f, lt_t, lt_f, eq_t, eq_f, eqm_f, ltz_f, cond_true, cond_false, if_true, if_false, k_I3 hj, w4, if_neg z1, ev_call il]
        cases hc : lfB r an d L[i] with
        | true => exact Ok.pM ⟨by rw [if_pos (yes (by simp [hc]))], rfl⟩
        | false =>
          have g1 := gr (i + 1) (by omega)
          simp (disch := omega) only [x_I1, x_I14, x_I18, x_I19, x_I2, x_I20, x_I24, x_I25, x_I3, x_I31, x_I33, x_I38, x_I39, x_R0, x_R10, x_R12, x_R13, x_R15, x_R16, x_R17, x_R21, x_R22, x_R23, x_R26, x_R27, x_R28, x_R29, x_R30, x_R32, x_R34, x_R35, x_R36, x_R37, x_R4, x_R40, x_R41, x_R43, x_R44, x_R45, x_R5, x_R6, x_R7, x_R8, x_R9, x_chk, x_chk15, x_chk7, x_w0I3, x_w0I4, x_w0I5, x_w0R1, x_w0R2, x_w1I3, x_w1I4, x_w1I5, x_w1R1, x_w1R2, x_sI1, x_sI14, x_sI18, x_sI19, x_sI2, x_sI20, x_sI24, x_sI25, x_sI3, x_sI31, x_sI33, x_sI38, x_sI39, x_sR11, x_sR42, x_w0sI3, x_w0sI4, x_w0sI5, x_w0sR, x_w1sI3, x_w1sI4, x_w1sI5, x_w1sR, x_A1n, x_sA1n, x_A13n, x_sA13n, x_A14n, x_sA14n, x_A21n, x_sA21n, x_A22n, x_sA22n, x_A27n, x_sA27n, x_A28n, x_sA28n, x_A29n, x_sA29n, x_A30n, x_sA30n, x_A31n, x_sA31n, x_A32n, x_sA32n, x_A33n, x_sA33n, x_A34n, x_sA34n, x_A35n, x_sA35n, x_A36n, x_sA36n, x_A37n, x_sA37n, x_A38n, x_sA38n, x_A39n, x_sA39n, x_A40n, x_sA40n, x_A41n, x_sA41n, x_A42n, x_sA42n, x_A43n, x_sA43n, evq_lv, evq_pure, lvM, m_hasn, m_isIn, m_one, m_isHang, x_w0R0e, x_R11e, x_w1R0e, Option.elim_some, Mo.bind_assoc, Mo.pure_bind, Mo.bind_pure, lit, nI_add, nI_mul, nI_subn, le_t, le_f, lt_t, lt_f, eq_t, eq_f, eqm_f, ltz_f, cond_true, cond_false, if_true, if_false, ev_call g1]
          refine Ok.pM ⟨k - 1, by omega, i + 1, by omega, rfl, rfl, fun x hx => ?_⟩
          rw [List.take_succ_eq_append_getElem hi, List.mem_append, List.mem_singleton] at hx
          rcases hx with hx | hx
          · exact hA x hx
          · rw [hx]; simp [z1, hc]
    · have : i = L.length := by omega
      subst this
      rw [atN_f (Nat.le_refl _)]
      simp (disch := omega) only [x_I1, x_I14, x_I18, x_I19, x_I2, x_I20, x_I24, x_I25, x_I3, x_I31, x_I33, x_I38, x_I39, x_R0, x_R10, x_R12, x_R13, x_R15, x_R16, x_R17, x_R21, x_R22, x_R23, x_R26, x_R27, x_R28, x_R29, x_R30, x_R32, x_R34, x_R35, x_R36, x_R37, x_R4, x_R40, x_R41, x_R43, x_R44, x_R45, x_R5, x_R6, x_R7, x_R8, x_R9, x_chk, x_chk15, x_chk7, x_w0I3, x_w0I4, x_w0I5, x_w0R1, x_w0R2, x_w1I3, x_w1I4, x_w1I5, x_w1R1, x_w1R2, x_sI1, x_sI14, x_sI18, x_sI19, x_sI2, x_sI20, x_sI24, x_sI25, x_sI3, x_sI31, x_sI33, x_sI38, x_sI39, x_sR11, x_sR42, x_w0sI3, x_w0sI4, x_w0sI5, x_w0sR, x_w1sI3, x_w1sI4, x_w1sI5, x_w1sR, x_A1n, x_sA1n, x_A13n, x_sA13n, x_A14n, x_sA14n, x_A21n, x_sA21n, x_A22n, x_sA22n, x_A27n, x_sA27n, x_A28n, x_sA28n, x_A29n, x_sA29n, x_A30n, x_sA30n, x_A31n, x_sA31n, x_A32n, x_sA32n, x_A33n, x_sA33n, x_A34n, x_sA34n, x_A35n, x_sA35n, x_A36n, x_sA36n, x_A37n, x_sA37n, x_A38n, x_sA38n, x_A39n, x_sA39n, x_A40n, x_sA40n, x_A41n, x_sA41n, x_A42n, x_sA42n, x_A43n, x_sA43n, evq_lv, evq_pure, lvM, m_hasn, m_isIn, m_one, m_isHang, x_w0R0e, x_R11e, x_w1R0e, Option.elim_some, Mo.bind_assoc, Mo.pure_bind, Mo.bind_pure, lit, nI_add, nI_mul, nI_subn, le_t, le_f, lt_t, lt_f, eq_t, eq_f, eqm_f, ltz_f, cond_true, cond_false, if_true, if_false, if_pos]
      refine Ok.pM ⟨?_, rfl⟩
      rw [if_neg]
      intro z
      obtain ⟨x, h1, h2⟩ := List.any_eq_true.mp z
      rw [List.take_length] at hA
      rw [hA x h1] at h2; cases h2
end
