set_option maxRecDepth 100000
/-! ===== sets of hangings: numbers below 16 ===== -/
def andn (a b : Nat) : Nat := a &&& (15 - b)
theorem andn_nI : ∀ a : Nat, a < 16 → ∀ b : Nat, b < 16 → nI a &&& (nI b ^^^ -nI 1) = nI (andn a b) := by decide +kernel
theorem andn_lt {a : Nat} (b : Nat) (h : a < 16) : andn a b < 16 := Nat.lt_of_le_of_lt Nat.and_le_left h
theorem andn_idem (a b : Nat) : andn (andn a b) b = andn a b := by unfold andn; rw [Nat.and_assoc, Nat.and_self]
theorem andn_keep {a c : Nat} (b : Nat) (h : andn a c = a) : andn (andn a b) c = andn a b := by
  unfold andn at h ⊢
  rw [Nat.and_assoc, Nat.and_comm (15 - b), ← Nat.and_assoc, h]
def pm (p : Nat → Bool) : Nat → Nat
  | 0 => 0
  | k + 1 => pm p k + (if p k then 2 ^ k else 0)
theorem pm_lt (p : Nat → Bool) : ∀ k, k ≤ 4 → pm p k < 16 := by
  intro k hk
  have : pm p k < 2 ^ k := by
    clear hk
    induction k with
    | zero => simp [pm]
    | succ k ih => unfold pm; rw [Nat.pow_succ]; split <;> omega
  exact Nat.lt_of_lt_of_le this (Nat.pow_le_pow_right (i := k) (j := 4) (by decide) hk)
theorem biteS_pm (r : Row) (d h e : Nat) (hne : e ≠ d) : biteS r d h e = nI (pm (biteR r d h e) 4) := by
  have key : ∀ b0 b1 b2 b3 : Bool, ((((0 ||| (if b0 then oneB 0 else 0)) ||| (if b1 then oneB 1 else 0)) ||| (if b2 then oneB 2 else 0)) ||| (if b3 then oneB 3 else 0)) = nI (0 + (if b0 then 2 ^ 0 else 0) + (if b1 then 2 ^ 1 else 0) + (if b2 then 2 ^ 2 else 0) + (if b3 then 2 ^ 3 else 0)) := by decide
  have st : ∀ (b : Bool) (v : Int32) (g : Nat), (if b then v ||| oneB g else v) = v ||| (if b then oneB g else 0) := fun b v g => by
    cases b with
    | true => rfl
    | false => exact (or_zero32 v).symm
  unfold biteS
  rw [if_neg hne]
  show (List.range 4).foldl _ 0 = _
  simp only [List.range_succ, List.range_zero, List.foldl_append, List.foldl_cons, List.foldl_nil, List.nil_append]
  rw [st, st, st, st, key]
  rfl
theorem pm_step (p : Nat → Bool) {k a : Nat} (hk : k < 4) (ha : a < 16) (hp : p k = true) : nI (andn a (pm p k)) &&& ((nI 1 <<< (nI k &&& nI 31)) ^^^ -nI 1) = nI (andn a (pm p (k + 1))) := by
  have h1 : ∀ k : Nat, k < 4 → nI 1 <<< (nI k &&& nI 31) = nI (2 ^ k) := by decide +kernel
  have h2 : 2 ^ k < 16 := by rcases (show k = 0 ∨ k = 1 ∨ k = 2 ∨ k = 3 by omega) with rfl | rfl | rfl | rfl <;> decide
  rw [h1 k hk, andn_nI _ (andn_lt _ ha) _ h2]
  congr 1
  have key : ∀ (k : Nat), k < 4 → ∀ x : Nat, x < 2 ^ k → (15 - x) &&& (15 - 2 ^ k) = 15 - (x + 2 ^ k) := by decide +kernel
  have h3 : pm p k < 2 ^ k := by
    clear hp hk h2
    induction k with
    | zero => simp [pm]
    | succ k ih => unfold pm; rw [Nat.pow_succ]; split <;> omega
  show andn (andn a (pm p k)) (2 ^ k) = andn a (pm p k + (if p k then 2 ^ k else 0))
  rw [hp, if_pos rfl]
  unfold andn
  rw [Nat.and_assoc, key k hk _ h3]
theorem pm_not {r : Row} {d h e g : Nat} (hg : g < 4) (hb : biteR r d h e g = false) : andn (2 ^ g) (pm (biteR r d h e) 4) = 2 ^ g := by
  have key : ∀ b0 b1 b2 b3 : Bool, ∀ g : Nat, g < 4 → ([b0, b1, b2, b3] : List Bool).getD g true = false → andn (2 ^ g) (0 + (if b0 then 2 ^ 0 else 0) + (if b1 then 2 ^ 1 else 0) + (if b2 then 2 ^ 2 else 0) + (if b3 then 2 ^ 3 else 0)) = 2 ^ g := by decide +kernel
  refine key (biteR r d h e 0) (biteR r d h e 1) (biteR r d h e 2) (biteR r d h e 3) g hg ?_
  rcases (show g = 0 ∨ g = 1 ∨ g = 2 ∨ g = 3 by omega) with rfl | rfl | rfl | rfl <;> exact hb
theorem pm_is {r : Row} {d h e g : Nat} (hg : g < 4) (hb : andn (2 ^ g) (pm (biteR r d h e) 4) = 2 ^ g) : biteR r d h e g = false := by
  have key : ∀ b0 b1 b2 b3 : Bool, ∀ g : Nat, g < 4 → andn (2 ^ g) (0 + (if b0 then 2 ^ 0 else 0) + (if b1 then 2 ^ 1 else 0) + (if b2 then 2 ^ 2 else 0) + (if b3 then 2 ^ 3 else 0)) = 2 ^ g → ([b0, b1, b2, b3] : List Bool).getD g true = false := by decide +kernel
  have := key (biteR r d h e 0) (biteR r d h e 1) (biteR r d h e 2) (biteR r d h e 3) g hg hb
  rcases (show g = 0 ∨ g = 1 ∨ g = 2 ∨ g = 3 by omega) with rfl | rfl | rfl | rfl <;> exact this
/-! ===== the first that is so ===== -/
def isLeast (p : Nat → Bool) (j N : Nat) (v : Int32) : Prop := (v = -nI 1 ∧ ∀ e, j ≤ e → e < N → p e = false) ∨ ∃ e, j ≤ e ∧ e < N ∧ v = nI e ∧ p e = true ∧ ∀ f, j ≤ f → f < e → p f = false
theorem isLeast.eq {p : Nat → Bool} {j N : Nat} {v w : Int32} (h : isLeast p j N v) (k : isLeast p j N w) : v = w := by
  rcases h with ⟨rfl, h1⟩ | ⟨e, h1, h2, rfl, h3, h4⟩ <;> rcases k with ⟨rfl, k1⟩ | ⟨f, k1, k2, rfl, k3, k4⟩
  · rfl
  · rw [h1 f k1 k2] at k3; cases k3
  · rw [k1 e h1 h2] at h3; cases h3
  · rcases Nat.lt_trichotomy e f with z | z | z
    · rw [k4 e h1 z] at h3; cases h3
    · rw [z]
    · rw [h4 f k1 z] at k3; cases k3
theorem isLeast.up {p : Nat → Bool} {j N : Nat} {v : Int32} (h : isLeast p (j + 1) N v) (hp : p j = false) : isLeast p j N v := by
  rcases h with ⟨rfl, h1⟩ | ⟨e, h1, h2, rfl, h3, h4⟩
  · exact Or.inl ⟨rfl, fun e he hN => by
      by_cases z : e = j
      · rw [z]; exact hp
      · exact h1 e (by omega) hN⟩
  · exact Or.inr ⟨e, by omega, h2, rfl, h3, fun f hf hfe => by
      by_cases z : f = j
      · rw [z]; exact hp
      · exact h4 f (by omega) hfe⟩
theorem isLeast.here {p : Nat → Bool} {j N : Nat} (hj : j < N) (hp : p j = true) : isLeast p j N (nI j) := Or.inr ⟨j, Nat.le_refl _, hj, rfl, hp, fun f h1 h2 => by omega⟩
theorem isLeast.none {p : Nat → Bool} {N : Nat} : isLeast p N N (-nI 1) := Or.inl ⟨rfl, fun e h1 h2 => by omega⟩
theorem isLeast.congr {p q : Nat → Bool} {j N : Nat} {v : Int32} (h : isLeast p j N v) (e : ∀ i, i < N → p i = q i) : isLeast q j N v := by
  rcases h with ⟨rfl, h1⟩ | ⟨i, h1, h2, rfl, h3, h4⟩
  · exact Or.inl ⟨rfl, fun i he hN => by rw [← e i hN]; exact h1 i he hN⟩
  · exact Or.inr ⟨i, h1, h2, rfl, by rw [← e i h2]; exact h3, fun f hf hfe => by rw [← e f (by omega)]; exact h4 f hf hfe⟩
/-- counting down: the place below k -/
def pos : Nat → Int32
  | 0 => -nI 1
  | k + 1 => nI k
theorem pos_1 {k : Nat} : nI k + -nI 1 = pos k := by
  cases k with
  | zero => rfl
  | succ k =>
    show nI (k + 1) + -nI 1 = nI k
    rw [← Int32.sub_eq_add_neg]
    exact nI_pred k
theorem pos_z : pos 0 = -nI 1 := Eq.trans rfl rfl
theorem pos_s {k : Nat} : pos (k + 1) = nI k := Eq.trans rfl rfl
theorem negl : -nI 1 < nI 0 := by decide
theorem posz_t {α : Type} {x y : α} [Decidable (-nI 1 < nI 0)] : (if -nI 1 < nI 0 then x else y) = x := if_pos negl
/-! ===== what is bitten goes ===== -/
def awayN (r : Row) (d h but : Nat) (fr : Nat → Bool) (l : Nat → Nat) (e : Nat) : Nat := if e = but ∨ e = d ∨ fr e = true then l e else andn (l e) (pm (biteR r d h e) 4)
section
variable {n : Nat} {F : Fz} {G : gH} {ho : Nat} {r : Row} {nm : Nat → Int64}
theorem away_run (Z : FrzX n F G) (H : IsHouse F ho r nm) (ok : okRow r) {xs : XS} (e1 : xs.2.1 200 = some ho) {l : Nat → Nat} {fr : Nat → Bool} {d h but : Nat} (hd : d < rN r 2) (hh : h < 4) (hbt : but < rN r 2) (hl : ∀ e, e < rN r 2 → xs.2.2.1 21 e = nI (l e) ∧ l e < 16) (hf : ∀ e, e < rN r 2 → (fr e = true ∧ ∃ g, g < 4 ∧ xs.2.2.1 22 e = nI g) ∨ (fr e = false ∧ xs.2.2.1 22 e = -nI 1)) : Ok ((M_X1_bitesAway n (nI d) (nI h) (nI but)).1 (mkX n G xs)) (fun v h' => ∃ xs', h' = mkX n G xs' ∧ sameX [] [21] xs xs' ∧ (∀ e, e < rN r 2 → xs'.2.2.1 21 e = nI (awayN r d h but fr l e)) ∧ isLeast (fun e => decide (e ≠ but) && decide (awayN r d h but fr l e = 0)) 0 (rN r 2) v) := by
  have hm := ok.2.2.1.2
  unfold M_X1_bitesAway
  simp (disch := omega) only [x_I1, x_I14, x_I18, x_I19, x_I2, x_I20, x_I24, x_I25, x_I3, x_I31, x_I33, x_I38, x_I39, x_R0, x_R10, x_R12, x_R13, x_R15, x_R16, x_R17, x_R21, x_R22, x_R23, x_R26, x_R27, x_R28, x_R29, x_R30, x_R32, x_R34, x_R35, x_R36, x_R37, x_R4, x_R40, x_R41, x_R43, x_R44, x_R45, x_R5, x_R6, x_R7, x_R8, x_R9, x_chk, x_chk15, x_chk7, x_w0I3, x_w0I4, x_w0I5, x_w0R1, x_w0R2, x_w1I3, x_w1I4, x_w1I5, x_w1R1, x_w1R2, x_sI1, x_sI14, x_sI18, x_sI19, x_sI2, x_sI20, x_sI24, x_sI25, x_sI3, x_sI31, x_sI33, x_sI38, x_sI39, x_sR11, x_sR42, x_w0sI3, x_w0sI4, x_w0sI5, x_w0sR, x_w1sI3, x_w1sI4, x_w1sI5, x_w1sR, x_A1n, x_sA1n, x_A13n, x_sA13n, x_A14n, x_sA14n, x_A21n, x_sA21n, x_A22n, x_sA22n, x_A27n, x_sA27n, x_A28n, x_sA28n, x_A29n, x_sA29n, x_A30n, x_sA30n, x_A31n, x_sA31n, x_A32n, x_sA32n, x_A33n, x_sA33n, x_A34n, x_sA34n, x_A35n, x_sA35n, x_A36n, x_sA36n, x_A37n, x_sA37n, x_A38n, x_sA38n, x_A39n, x_sA39n, x_A40n, x_sA40n, x_A41n, x_sA41n, x_A42n, x_sA42n, x_A43n, x_sA43n, evq_lv, evq_pure, lvM, m_hasn, m_isIn, m_one, m_isHang, x_w0R0e, x_R11e, x_w1R0e, Option.elim_some, Mo.bind_assoc, Mo.pure_bind, Mo.bind_pure, lit, nI_add, nI_mul, nI_subn, le_t, le_f, lt_t, lt_f, eq_t, eq_f, eqm_f, ltz_f, cond_true, cond_false, if_true, if_false, e1, hs_many (Z _) H, ok.2.2.1.1]
  have lt16 : ∀ e, e < rN r 2 → awayN r d h but fr l e < 16 := fun e he => by
    unfold awayN
    split
    · exact (hl e he).2
    · exact andn_lt _ (hl e he).2
  refine Ok.loopM (S := Int32 × Int32) (E := Int32) (fun k s h' => k ≤ rN r 2 ∧ s.2 = pos k ∧ ∃ xs', h' = mkX n G xs' ∧ sameX [] [21] xs xs' ∧ (∀ e, e < rN r 2 → xs'.2.2.1 21 e = nI (if k ≤ e then awayN r d h but fr l e else l e)) ∧ isLeast (fun e => decide (e ≠ but) && decide (awayN r d h but fr l e = 0)) k (rN r 2) s.1) (fun k s h' hI => ?_) (rN r 2) _ _ ⟨by omega, ?_, xs, rfl, sameX.rf, fun e he => ?_, isLeast.none⟩
  · obtain ⟨hk, hs, xs', rfl, S, hL, hV⟩ := hI
    obtain ⟨v, p⟩ := s
    dsimp only at hs hV ⊢
    subst hs
    have e2 : xs'.2.1 200 = some ho := by rw [S.2.1]; exact e1
    cases k with
    | zero =>
      simp (disch := omega) only [x_I1, x_I14, x_I18, x_I19, x_I2, x_I20, x_I24, x_I25, x_I3, x_I31, x_I33, x_I38, x_I39, x_R0, x_R10, x_R12, x_R13, x_R15, x_R16, x_R17, x_R21, x_R22, x_R23, x_R26, x_R27, x_R28, x_R29, x_R30, x_R32, x_R34, x_R35, x_R36, x_R37, x_R4, x_R40, x_R41, x_R43, x_R44, x_R45, x_R5, x_R6, x_R7, x_R8, x_R9, x_chk, x_chk15, x_chk7, x_w0I3, x_w0I4, x_w0I5, x_w0R1, x_w0R2, x_w1I3, x_w1I4, x_w1I5, x_w1R1, x_w1R2, x_sI1, x_sI14, x_sI18, x_sI19, x_sI2, x_sI20, x_sI24, x_sI25, x_sI3, x_sI31, x_sI33, x_sI38, x_sI39, x_sR11, x_sR42, x_w0sI3, x_w0sI4, x_w0sI5, x_w0sR, x_w1sI3, x_w1sI4, x_w1sI5, x_w1sR, x_A1n, x_sA1n, x_A13n, x_sA13n, x_A14n, x_sA14n, x_A21n, x_sA21n, x_A22n, x_sA22n, x_A27n, x_sA27n, x_A28n, x_sA28n, x_A29n, x_sA29n, x_A30n, x_sA30n, x_A31n, x_sA31n, x_A32n, x_sA32n, x_A33n, x_sA33n, x_A34n, x_sA34n, x_A35n, x_sA35n, x_A36n, x_sA36n, x_A37n, x_sA37n, x_A38n, x_sA38n, x_A39n, x_sA39n, x_A40n, x_sA40n, x_A41n, x_sA41n, x_A42n, x_sA42n, x_A43n, x_sA43n, evq_lv, evq_pure, lvM, m_hasn, m_isIn, m_one, m_isHang, x_w0R0e, x_R11e, x_w1R0e, Option.elim_some, Mo.bind_assoc, Mo.pure_bind, Mo.bind_pure, lit, nI_add, nI_mul, nI_subn, le_t, le_f, lt_t, lt_f, eq_t, eq_f, eqm_f, ltz_f, cond_true, cond_false, if_true, if_false, pos_z, posz_t]
      exact Ok.pM ⟨xs', rfl, S, fun e he => by rw [hL e he, if_pos (by omega)], hV⟩
    | succ e =>
      have he : e < rN r 2 := by omega
      have x22 : xs'.2.2.1 22 = xs.2.2.1 22 := S.2.2.1 22 (by decide)
      have le := hL e he
      rw [if_neg (by omega)] at le
      -- how the set at e comes out
      have fin : ∀ (xs2 : XS), sameX [] [21] xs xs2 → (∀ f, f < rN r 2 → xs2.2.2.1 21 f = nI (if e ≤ f then awayN r d h but fr l f else l f)) → e ≠ but → Ok ((Mo.bind (if nI (awayN r d h but fr l e) = nI 0 then Mo.pure (nI e) else Mo.pure v) (fun u9 => Mo.lv (nI e + -nI 1) (fun v10 => Mo.pure (Sum.inl (u9, v10))))).1 (mkX n G xs2)) (lpQ (fun s' m' => ∃ k', k' < e + 1 ∧ k' ≤ rN r 2 ∧ s'.2 = pos k' ∧ ∃ xs', m' = mkX n G xs' ∧ sameX [] [21] xs xs' ∧ (∀ e, e < rN r 2 → xs'.2.2.1 21 e = nI (if k' ≤ e then awayN r d h but fr l e else l e)) ∧ isLeast (fun e => decide (e ≠ but) && decide (awayN r d h but fr l e = 0)) k' (rN r 2) s'.1) (fun v h' => ∃ xs', h' = mkX n G xs' ∧ sameX [] [21] xs xs' ∧ (∀ e, e < rN r 2 → xs'.2.2.1 21 e = nI (awayN r d h but fr l e)) ∧ isLeast (fun e => decide (e ≠ but) && decide (awayN r d h but fr l e = 0)) 0 (rN r 2) v)) := by
        intro xs2 S2 L2 hb
        have l16 := lt16 e he
        by_cases z : awayN r d h but fr l e = 0
        · simp (disch := omega) only [x_I1, x_I14, x_I18, x_I19, x_I2, x_I20, x_I24, x_I25, x_I3, x_I31, x_I33, x_I38, x_I39, x_R0, x_R10, x_R12, x_R13, x_R15, x_R16, x_R17, x_R21, x_R22, x_R23, x_R26, x_R27, x_R28, x_R29, x_R30, x_R32, x_R34, x_R35, x_R36, x_R37, x_R4, x_R40, x_R41, x_R43, x_R44, x_R45, x_R5, x_R6, x_R7, x_R8, x_R9, x_chk, x_chk15, x_chk7, x_w0I3, x_w0I4, x_w0I5, x_w0R1, x_w0R2, x_w1I3, x_w1I4, x_w1I5, x_w1R1, x_w1R2, x_sI1, x_sI14, x_sI18, x_sI19, x_sI2, x_sI20, x_sI24, x_sI25, x_sI3, x_sI31, x_sI33, x_sI38, x_sI39, x_sR11, x_sR42, x_w0sI3, x_w0sI4, x_w0sI5, x_w0sR, x_w1sI3, x_w1sI4, x_w1sI5, x_w1sR, x_A1n, x_sA1n, x_A13n, x_sA13n, x_A14n, x_sA14n, x_A21n, x_sA21n, x_A22n, x_sA22n, x_A27n, x_sA27n, x_A28n, x_sA28n, x_A29n, x_sA29n, x_A30n, x_sA30n, x_A31n, x_sA31n, x_A32n, x_sA32n, x_A33n, x_sA33n, x_A34n, x_sA34n, x_A35n, x_sA35n, x_A36n, x_sA36n, x_A37n, x_sA37n, x_A38n, x_sA38n, x_A39n, x_sA39n, x_A40n, x_sA40n, x_A41n, x_sA41n, x_A42n, x_sA42n, x_A43n, x_sA43n, evq_lv, evq_pure, lvM, m_hasn, m_isIn, m_one, m_isHang, x_w0R0e, x_R11e, x_w1R0e, Option.elim_some, Mo.bind_assoc, Mo.pure_bind, Mo.bind_pure, lit, nI_add, nI_mul, nI_subn, le_t, le_f, lt_t, lt_f, eq_t, eq_f, eqm_f, ltz_f, cond_true, cond_false, if_true, if_false, pos_1]
          exact Ok.pM ⟨e, by omega, by omega, rfl, xs2, rfl, S2, L2, isLeast.here he (by simp [hb, z])⟩
        · simp (disch := omega) only [x_I1, x_I14, x_I18, x_I19, x_I2, x_I20, x_I24, x_I25, x_I3, x_I31, x_I33, x_I38, x_I39, x_R0, x_R10, x_R12, x_R13, x_R15, x_R16, x_R17, x_R21, x_R22, x_R23, x_R26, x_R27, x_R28, x_R29, x_R30, x_R32, x_R34, x_R35, x_R36, x_R37, x_R4, x_R40, x_R41, x_R43, x_R44, x_R45, x_R5, x_R6, x_R7, x_R8, x_R9, x_chk, x_chk15, x_chk7, x_w0I3, x_w0I4, x_w0I5, x_w0R1, x_w0R2, x_w1I3, x_w1I4, x_w1I5, x_w1R1, x_w1R2, x_sI1, x_sI14, x_sI18, x_sI19, x_sI2, x_sI20, x_sI24, x_sI25, x_sI3, x_sI31, x_sI33, x_sI38, x_sI39, x_sR11, x_sR42, x_w0sI3, x_w0sI4, x_w0sI5, x_w0sR, x_w1sI3, x_w1sI4, x_w1sI5, x_w1sR, x_A1n, x_sA1n, x_A13n, x_sA13n, x_A14n, x_sA14n, x_A21n, x_sA21n, x_A22n, x_sA22n, x_A27n, x_sA27n, x_A28n, x_sA28n, x_A29n, x_sA29n, x_A30n, x_sA30n, x_A31n, x_sA31n, x_A32n, x_sA32n, x_A33n, x_sA33n, x_A34n, x_sA34n, x_A35n, x_sA35n, x_A36n, x_sA36n, x_A37n, x_sA37n, x_A38n, x_sA38n, x_A39n, x_sA39n, x_A40n, x_sA40n, x_A41n, x_sA41n, x_A42n, x_sA42n, x_A43n, x_sA43n, evq_lv, evq_pure, lvM, m_hasn, m_isIn, m_one, m_isHang, x_w0R0e, x_R11e, x_w1R0e, Option.elim_some, Mo.bind_assoc, Mo.pure_bind, Mo.bind_pure, lit, nI_add, nI_mul, nI_subn, le_t, le_f, lt_t, lt_f, eq_t, eq_f, eqm_f, ltz_f, cond_true, cond_false, if_true, if_false, pos_1]
          exact Ok.pM ⟨e, by omega, by omega, rfl, xs2, rfl, S2, L2, hV.up (by simp [z])⟩
      have keep : awayN r d h but fr l e = l e → ∀ f, f < rN r 2 → xs'.2.2.1 21 f = nI (if e ≤ f then awayN r d h but fr l f else l f) := fun z f hf => by
        by_cases y : f = e
        · subst y; rw [if_pos (Nat.le_refl _), z]; exact le
        · rw [hL f hf]
          by_cases w : e ≤ f
          · rw [if_pos w, if_pos (by omega)]
          · rw [if_neg w, if_neg (by omega)]
      by_cases hb : e = but
      · have ea : awayN r d h but fr l e = l e := by unfold awayN; rw [if_pos (Or.inl hb)]
        simp (disch := omega) only [x_I1, x_I14, x_I18, x_I19, x_I2, x_I20, x_I24, x_I25, x_I3, x_I31, x_I33, x_I38, x_I39, x_R0, x_R10, x_R12, x_R13, x_R15, x_R16, x_R17, x_R21, x_R22, x_R23, x_R26, x_R27, x_R28, x_R29, x_R30, x_R32, x_R34, x_R35, x_R36, x_R37, x_R4, x_R40, x_R41, x_R43, x_R44, x_R45, x_R5, x_R6, x_R7, x_R8, x_R9, x_chk, x_chk15, x_chk7, x_w0I3, x_w0I4, x_w0I5, x_w0R1, x_w0R2, x_w1I3, x_w1I4, x_w1I5, x_w1R1, x_w1R2, x_sI1, x_sI14, x_sI18, x_sI19, x_sI2, x_sI20, x_sI24, x_sI25, x_sI3, x_sI31, x_sI33, x_sI38, x_sI39, x_sR11, x_sR42, x_w0sI3, x_w0sI4, x_w0sI5, x_w0sR, x_w1sI3, x_w1sI4, x_w1sI5, x_w1sR, x_A1n, x_sA1n, x_A13n, x_sA13n, x_A14n, x_sA14n, x_A21n, x_sA21n, x_A22n, x_sA22n, x_A27n, x_sA27n, x_A28n, x_sA28n, x_A29n, x_sA29n, x_A30n, x_sA30n, x_A31n, x_sA31n, x_A32n, x_sA32n, x_A33n, x_sA33n, x_A34n, x_sA34n, x_A35n, x_sA35n, x_A36n, x_sA36n, x_A37n, x_sA37n, x_A38n, x_sA38n, x_A39n, x_sA39n, x_A40n, x_sA40n, x_A41n, x_sA41n, x_A42n, x_sA42n, x_A43n, x_sA43n, evq_lv, evq_pure, lvM, m_hasn, m_isIn, m_one, m_isHang, x_w0R0e, x_R11e, x_w1R0e, Option.elim_some, Mo.bind_assoc, Mo.pure_bind, Mo.bind_pure, lit, nI_add, nI_mul, nI_subn, le_t, le_f, lt_t, lt_f, eq_t, eq_f, eqm_f, ltz_f, cond_true, cond_false, if_true, if_false, pos_s, pos_1]
        exact Ok.pM ⟨e, by omega, by omega, rfl, xs', rfl, S, keep ea, hV.up (by simp [hb])⟩
      · by_cases hde : e = d
        · have ea : awayN r d h but fr l e = l e := by unfold awayN; rw [if_pos (Or.inr (Or.inl hde))]
          have := fin xs' S (keep ea) hb
          rw [ea] at this
          simp (disch := omega) only [x_I1, x_I14, x_I18, x_I19, x_I2, x_I20, x_I24, x_I25, x_I3, x_I31, x_I33, x_I38, x_I39, x_R0, x_R10, x_R12, x_R13, x_R15, x_R16, x_R17, x_R21, x_R22, x_R23, x_R26, x_R27, x_R28, x_R29, x_R30, x_R32, x_R34, x_R35, x_R36, x_R37, x_R4, x_R40, x_R41, x_R43, x_R44, x_R45, x_R5, x_R6, x_R7, x_R8, x_R9, x_chk, x_chk15, x_chk7, x_w0I3, x_w0I4, x_w0I5, x_w0R1, x_w0R2, x_w1I3, x_w1I4, x_w1I5, x_w1R1, x_w1R2, x_sI1, x_sI14, x_sI18, x_sI19, x_sI2, x_sI20, x_sI24, x_sI25, x_sI3, x_sI31, x_sI33, x_sI38, x_sI39, x_sR11, x_sR42, x_w0sI3, x_w0sI4, x_w0sI5, x_w0sR, x_w1sI3, x_w1sI4, x_w1sI5, x_w1sR, x_A1n, x_sA1n, x_A13n, x_sA13n, x_A14n, x_sA14n, x_A21n, x_sA21n, x_A22n, x_sA22n, x_A27n, x_sA27n, x_A28n, x_sA28n, x_A29n, x_sA29n, x_A30n, x_sA30n, x_A31n, x_sA31n, x_A32n, x_sA32n, x_A33n, x_sA33n, x_A34n, x_sA34n, x_A35n, x_sA35n, x_A36n, x_sA36n, x_A37n, x_sA37n, x_A38n, x_sA38n, x_A39n, x_sA39n, x_A40n, x_sA40n, x_A41n, x_sA41n, x_A42n, x_sA42n, x_A43n, x_sA43n, evq_lv, evq_pure, lvM, m_hasn, m_isIn, m_one, m_isHang, x_w0R0e, x_R11e, x_w1R0e, Option.elim_some, Mo.bind_assoc, Mo.pure_bind, Mo.bind_pure, lit, nI_add, nI_mul, nI_subn, le_t, le_f, lt_t, lt_f, eq_t, eq_f, eqm_f, ltz_f, cond_true, cond_false, if_true, if_false, pos_s, pos_1, le]
          simp (disch := omega) only [x_I1, x_I14, x_I18, x_I19, x_I2, x_I20, x_I24, x_I25, x_I3, x_I31, x_I33, x_I38, x_I39, x_R0, x_R10, x_R12, x_R13, x_R15, x_R16, x_R17, x_R21, x_R22, x_R23, x_R26, x_R27, x_R28, x_R29, x_R30, x_R32, x_R34, x_R35, x_R36, x_R37, x_R4, x_R40, x_R41, x_R43, x_R44, x_R45, x_R5, x_R6, x_R7, x_R8, x_R9, x_chk, x_chk15, x_chk7, x_w0I3, x_w0I4, x_w0I5, x_w0R1, x_w0R2, x_w1I3, x_w1I4, x_w1I5, x_w1R1, x_w1R2, x_sI1, x_sI14, x_sI18, x_sI19, x_sI2, x_sI20, x_sI24, x_sI25, x_sI3, x_sI31, x_sI33, x_sI38, x_sI39, x_sR11, x_sR42, x_w0sI3, x_w0sI4, x_w0sI5, x_w0sR, x_w1sI3, x_w1sI4, x_w1sI5, x_w1sR, x_A1n, x_sA1n, x_A13n, x_sA13n, x_A14n, x_sA14n, x_A21n, x_sA21n, x_A22n, x_sA22n, x_A27n, x_sA27n, x_A28n, x_sA28n, x_A29n, x_sA29n, x_A30n, x_sA30n, x_A31n, x_sA31n, x_A32n, x_sA32n, x_A33n, x_sA33n, x_A34n, x_sA34n, x_A35n, x_sA35n, x_A36n, x_sA36n, x_A37n, x_sA37n, x_A38n, x_sA38n, x_A39n, x_sA39n, x_A40n, x_sA40n, x_A41n, x_sA41n, x_A42n, x_sA42n, x_A43n, x_sA43n, evq_lv, evq_pure, lvM, m_hasn, m_isIn, m_one, m_isHang, x_w0R0e, x_R11e, x_w1R0e, Option.elim_some, Mo.bind_assoc, Mo.pure_bind, Mo.bind_pure, lit, nI_add, nI_mul, nI_subn, le_t, le_f, lt_t, lt_f, eq_t, eq_f, eqm_f, ltz_f, cond_true, cond_false, if_true, if_false, pos_1] at this
          exact this
        · rcases hf e he with ⟨f1, g, f2, f3⟩ | ⟨f1, f3⟩
          · have ea : awayN r d h but fr l e = l e := by unfold awayN; rw [if_pos (Or.inr (Or.inr f1))]
            have := fin xs' S (keep ea) hb
            rw [ea] at this
            simp (disch := omega) only [x_I1, x_I14, x_I18, x_I19, x_I2, x_I20, x_I24, x_I25, x_I3, x_I31, x_I33, x_I38, x_I39, x_R0, x_R10, x_R12, x_R13, x_R15, x_R16, x_R17, x_R21, x_R22, x_R23, x_R26, x_R27, x_R28, x_R29, x_R30, x_R32, x_R34, x_R35, x_R36, x_R37, x_R4, x_R40, x_R41, x_R43, x_R44, x_R45, x_R5, x_R6, x_R7, x_R8, x_R9, x_chk, x_chk15, x_chk7, x_w0I3, x_w0I4, x_w0I5, x_w0R1, x_w0R2, x_w1I3, x_w1I4, x_w1I5, x_w1R1, x_w1R2, x_sI1, x_sI14, x_sI18, x_sI19, x_sI2, x_sI20, x_sI24, x_sI25, x_sI3, x_sI31, x_sI33, x_sI38, x_sI39, x_sR11, x_sR42, x_w0sI3, x_w0sI4, x_w0sI5, x_w0sR, x_w1sI3, x_w1sI4, x_w1sI5, x_w1sR, x_A1n, x_sA1n, x_A13n, x_sA13n, x_A14n, x_sA14n, x_A21n, x_sA21n, x_A22n, x_sA22n, x_A27n, x_sA27n, x_A28n, x_sA28n, x_A29n, x_sA29n, x_A30n, x_sA30n, x_A31n, x_sA31n, x_A32n, x_sA32n, x_A33n, x_sA33n, x_A34n, x_sA34n, x_A35n, x_sA35n, x_A36n, x_sA36n, x_A37n, x_sA37n, x_A38n, x_sA38n, x_A39n, x_sA39n, x_A40n, x_sA40n, x_A41n, x_sA41n, x_A42n, x_sA42n, x_A43n, x_sA43n, evq_lv, evq_pure, lvM, m_hasn, m_isIn, m_one, m_isHang, x_w0R0e, x_R11e, x_w1R0e, Option.elim_some, Mo.bind_assoc, Mo.pure_bind, Mo.bind_pure, lit, nI_add, nI_mul, nI_subn, le_t, le_f, lt_t, lt_f, eq_t, eq_f, eqm_f, ltz_f, cond_true, cond_false, if_true, if_false, pos_s, pos_1, le, x22, f3]
            simp (disch := omega) only [x_I1, x_I14, x_I18, x_I19, x_I2, x_I20, x_I24, x_I25, x_I3, x_I31, x_I33, x_I38, x_I39, x_R0, x_R10, x_R12, x_R13, x_R15, x_R16, x_R17, x_R21, x_R22, x_R23, x_R26, x_R27, x_R28, x_R29, x_R30, x_R32, x_R34, x_R35, x_R36, x_R37, x_R4, x_R40, x_R41, x_R43, x_R44, x_R45, x_R5, x_R6, x_R7, x_R8, x_R9, x_chk, x_chk15, x_chk7, x_w0I3, x_w0I4, x_w0I5, x_w0R1, x_w0R2, x_w1I3, x_w1I4, x_w1I5, x_w1R1, x_w1R2, x_sI1, x_sI14, x_sI18, x_sI19, x_sI2, x_sI20, x_sI24, x_sI25, x_sI3, x_sI31, x_sI33, x_sI38, x_sI39, x_sR11, x_sR42, x_w0sI3, x_w0sI4, x_w0sI5, x_w0sR, x_w1sI3, x_w1sI4, x_w1sI5, x_w1sR, x_A1n, x_sA1n, x_A13n, x_sA13n, x_A14n, x_sA14n, x_A21n, x_sA21n, x_A22n, x_sA22n, x_A27n, x_sA27n, x_A28n, x_sA28n, x_A29n, x_sA29n, x_A30n, x_sA30n, x_A31n, x_sA31n, x_A32n, x_sA32n, x_A33n, x_sA33n, x_A34n, x_sA34n, x_A35n, x_sA35n, x_A36n, x_sA36n, x_A37n, x_sA37n, x_A38n, x_sA38n, x_A39n, x_sA39n, x_A40n, x_sA40n, x_A41n, x_sA41n, x_A42n, x_sA42n, x_A43n, x_sA43n, evq_lv, evq_pure, lvM, m_hasn, m_isIn, m_one, m_isHang, x_w0R0e, x_R11e, x_w1R0e, Option.elim_some, Mo.bind_assoc, Mo.pure_bind, Mo.bind_pure, lit, nI_add, nI_mul, nI_subn, le_t, le_f, lt_t, lt_f, eq_t, eq_f, eqm_f, ltz_f, cond_true, cond_false, if_true, if_false, pos_1] at this
            exact this
          · have ea : awayN r d h but fr l e = andn (l e) (pm (biteR r d h e) 4) := by unfold awayN; rw [if_neg (by simp [hb, hde, f1])]
            have := fin (zA xs' 21 e (nI (awayN r d h but fr l e))) (S.zA (by decide)) (fun f hf => by
              rw [zA_221, va_eq]
              by_cases y : f = e
              · subst y; rw [va_eq, if_pos (Nat.le_refl _)]
              · rw [va_ne y, hL f hf]
                by_cases w : e ≤ f
                · rw [if_pos w, if_pos (by omega)]
                · rw [if_neg w, if_neg (by omega)]) hb
            rw [ea] at this
            have l16 := (hl e he).2
            simp (disch := omega) only [x_I1, x_I14, x_I18, x_I19, x_I2, x_I20, x_I24, x_I25, x_I3, x_I31, x_I33, x_I38, x_I39, x_R0, x_R10, x_R12, x_R13, x_R15, x_R16, x_R17, x_R21, x_R22, x_R23, x_R26, x_R27, x_R28, x_R29, x_R30, x_R32, x_R34, x_R35, x_R36, x_R37, x_R4, x_R40, x_R41, x_R43, x_R44, x_R45, x_R5, x_R6, x_R7, x_R8, x_R9, x_chk, x_chk15, x_chk7, x_w0I3, x_w0I4, x_w0I5, x_w0R1, x_w0R2, x_w1I3, x_w1I4, x_w1I5, x_w1R1, x_w1R2, x_sI1, x_sI14, x_sI18, x_sI19, x_sI2, x_sI20, x_sI24, x_sI25, x_sI3, x_sI31, x_sI33, x_sI38, x_sI39, x_sR11, x_sR42, x_w0sI3, x_w0sI4, x_w0sI5, x_w0sR, x_w1sI3, x_w1sI4, x_w1sI5, x_w1sR, x_A1n, x_sA1n, x_A13n, x_sA13n, x_A14n, x_sA14n, x_A21n, x_sA21n, x_A22n, x_sA22n, x_A27n, x_sA27n, x_A28n, x_sA28n, x_A29n, x_sA29n, x_A30n, x_sA30n, x_A31n, x_sA31n, x_A32n, x_sA32n, x_A33n, x_sA33n, x_A34n, x_sA34n, x_A35n, x_sA35n, x_A36n, x_sA36n, x_A37n, x_sA37n, x_A38n, x_sA38n, x_A39n, x_sA39n, x_A40n, x_sA40n, x_A41n, x_sA41n, x_A42n, x_sA42n, x_A43n, x_sA43n, evq_lv, evq_pure, lvM, m_hasn, m_isIn, m_one, m_isHang, x_w0R0e, x_R11e, x_w1R0e, Option.elim_some, Mo.bind_assoc, Mo.pure_bind, Mo.bind_pure, lit, nI_add, nI_mul, nI_subn, le_t, le_f, lt_t, lt_f, eq_t, eq_f, eqm_f, ltz_f, cond_true, cond_false, if_true, if_false, pos_s, pos_1, le, x22, f3, if_pos, e2, m_bitten (Z _) H hm, biteS_pm r d h e hde, andn_nI _ l16 _ (pm_lt _ 4 (Nat.le_refl 4)), zA_221, va_eq]
            simp (disch := omega) only [x_I1, x_I14, x_I18, x_I19, x_I2, x_I20, x_I24, x_I25, x_I3, x_I31, x_I33, x_I38, x_I39, x_R0, x_R10, x_R12, x_R13, x_R15, x_R16, x_R17, x_R21, x_R22, x_R23, x_R26, x_R27, x_R28, x_R29, x_R30, x_R32, x_R34, x_R35, x_R36, x_R37, x_R4, x_R40, x_R41, x_R43, x_R44, x_R45, x_R5, x_R6, x_R7, x_R8, x_R9, x_chk, x_chk15, x_chk7, x_w0I3, x_w0I4, x_w0I5, x_w0R1, x_w0R2, x_w1I3, x_w1I4, x_w1I5, x_w1R1, x_w1R2, x_sI1, x_sI14, x_sI18, x_sI19, x_sI2, x_sI20, x_sI24, x_sI25, x_sI3, x_sI31, x_sI33, x_sI38, x_sI39, x_sR11, x_sR42, x_w0sI3, x_w0sI4, x_w0sI5, x_w0sR, x_w1sI3, x_w1sI4, x_w1sI5, x_w1sR, x_A1n, x_sA1n, x_A13n, x_sA13n, x_A14n, x_sA14n, x_A21n, x_sA21n, x_A22n, x_sA22n, x_A27n, x_sA27n, x_A28n, x_sA28n, x_A29n, x_sA29n, x_A30n, x_sA30n, x_A31n, x_sA31n, x_A32n, x_sA32n, x_A33n, x_sA33n, x_A34n, x_sA34n, x_A35n, x_sA35n, x_A36n, x_sA36n, x_A37n, x_sA37n, x_A38n, x_sA38n, x_A39n, x_sA39n, x_A40n, x_sA40n, x_A41n, x_sA41n, x_A42n, x_sA42n, x_A43n, x_sA43n, evq_lv, evq_pure, lvM, m_hasn, m_isIn, m_one, m_isHang, x_w0R0e, x_R11e, x_w1R0e, Option.elim_some, Mo.bind_assoc, Mo.pure_bind, Mo.bind_pure, lit, nI_add, nI_mul, nI_subn, le_t, le_f, lt_t, lt_f, eq_t, eq_f, eqm_f, ltz_f, cond_true, cond_false, if_true, if_false, pos_1] at this
            exact this
  · show nI (rN r 2 - 1) = pos (rN r 2)
    obtain ⟨q, hq⟩ : ∃ q, rN r 2 = q + 1 := ⟨rN r 2 - 1, by omega⟩
    rw [hq]; rfl
  · rw [if_neg (by omega)]; exact (hl e he).1
end
