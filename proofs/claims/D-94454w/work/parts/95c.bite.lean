set_option maxRecDepth 100000
/-! ===== what an op begins with ===== -/
def FrzX (n : Nat) (F : Fz) (G : gH) : Prop := ∀ xs, Frz F (mkX n G xs)
theorem RelC.frzX {n : Nat} {F : Fz} {g : gH} {xs : XS} {ms : MS} (R : RelC n F g xs ms) (m : MS) : FrzX n F (mkM (n + 50) g m) := by
  intro xs' a c h
  obtain ⟨s1, s2, s3, s4, -⟩ := R.1
  obtain ⟨e1, e2, e3⟩ := s2 a c h
  have h50 : ¬ (n + 50 ≤ a ∧ a ≤ n + 83) := fun z => by rw [s4 a z.1 z.2] at h; cases h
  obtain ⟨o, rfl⟩ : ∃ o, a = n + o := ⟨a - n, by omega⟩
  rw [mkX_at, xCell_else (fun z => by rw [s3 o z] at h; cases h)]
  simp only [mkM, if_neg (show ¬ n + o = n + 50 by omega), if_neg (show ¬ (n + 50 < n + o ∧ n + o ≤ n + 50 + 32) by omega)]
  exact e1
theorem OpOk.two {n : Nat} {g : gH} {xs : XS} {ms : MS} {α : Type} {f : Mo α} {T : TM α} (h : Two (f.1 (mkX n (mkM (n + 50) g ms) xs)) (T ms) (fun a h b m' => a = b ∧ ∃ F' g' xs', h = mkX n (mkM (n + 50) g' ms) xs' ∧ RelC n F' g' xs' m' ∧ g'.2.1 ≤ g.2.1 + 9000 ∧ g'.2.2 ≤ g.2.2 + 100000)) : OpOk n (mkM (n + 50) (mkX n g xs) ms) (LS2 (n + 50) f T) := by
  obtain ⟨a, h', b, m', e1, e2, rfl, F', g', xs', rfl, R', s1, s2⟩ := h
  exact OpOk.of e1 e2 R' s1 s2
/-- both begin: the reference has laid its row r -/
theorem RelC.sit {n : Nat} {F : Fz} {g : gH} {xs : XS} {ms : MS} (R : RelC n F g xs ms) : ∃ (ho dy : Nat) (r : Row) (m1 : MS), M_X10_lay (uI ms 0 (nI 0)) = some ((), m1) ∧ RelC n F g xs m1 ∧ m1.2.2.1 14 = r ∧ m1.1 22 = 1 ∧ FrzX n F (mkM (n + 50) g ms) ∧ xs.2.1 200 = some ho ∧ xs.2.1 11 = some dy ∧ IsAll F ho (xs.2.2.1 200) (xs.2.2.1 201) (xs.2.2.2.1 0 3) dy (xs.2.1 42) r (m1.2.2.2 18) ∧ m1.1 0 = 0 ∧ (∀ k, k ≠ 0 → k ≠ 22 → m1.1 k = ms.1 k) ∧ (∀ k, k ≠ 14 → m1.2.2.1 k = ms.2.2.1 k) ∧ m1.2.2.2 = ms.2.2.2 := by
  have R0 := R.t0 0
  have RL := R0.lyd
  obtain ⟨ho, dy, e1, e2, hA⟩ := RL.2.2.2.2.2.1
  obtain ⟨l1, l2⟩ := lyd_row R0.2.2.2.2.1
  obtain ⟨s1, s2, s3, -⟩ := lyd_same (ms := uI ms 0 0)
  rw [eRow_begun l2] at hA
  exact ⟨ho, dy, _, _, lay_run R0.2.2.2.2.1, RL, rfl, l2, R.frzX ms, e1, e2, hA, s1 0 (by decide), fun k h1 h2 => (s1 k h2).trans (va_ne h1), fun k h => s2 k h, s3⟩
theorem lay_again {m : MS} (h : m.1 22 = 1) : M_X10_lay m = some ((), m) := by
  have := lay_run (ms := m) (Or.inr h)
  rwa [show lyd m = m by unfold lyd; rw [if_pos h]] at this
/-! ===== rows of the house ===== -/
section
variable {ax : Nat} {g : gH} {xs : XS} {β : Type}
theorem x_w0R0e {f : Nat → Mo β} : (Mo.bind (gR [2] (ax + 7) 0) f).1 (mkX ax g xs) = Option.elim (xs.2.1 200) none (fun v => (f v).1 (mkX ax g xs)) := by
  cases e : xs.2.1 200 with
  | some v => rw [x_w0R0 e]; rfl
  | none =>
    rw [Mo.bind_run]
    unfold gR Mo.rd gFld
    simp only [x_at7, e]
    rfl
theorem x_R11e {f : Nat → Mo β} : (Mo.bind (gR [0] ax 11) f).1 (mkX ax g xs) = Option.elim (xs.2.1 11) none (fun v => (f v).1 (mkX ax g xs)) := by
  cases e : xs.2.1 11 with
  | some v => rw [x_R11 e]; rfl
  | none =>
    rw [Mo.bind_run]
    unfold gR Mo.rd gFld
    simp only [mkX_at0, x1F, e]
    rfl
theorem x_w1R0e {f : Nat → Mo β} : (Mo.bind (gR [2] (ax + 15) 0) f).1 (mkX ax g xs) = Option.elim (xs.2.1 201) none (fun v => (f v).1 (mkX ax g xs)) := by
  cases e : xs.2.1 201 with
  | some v => rw [x_w1R0 e]; rfl
  | none =>
    rw [Mo.bind_run]
    unfold gR Mo.rd gFld
    simp only [x_at15, e]
    rfl
end
section
variable {F : Fz} {h : gH} {ho : Nat} {r : Row} {nm : Nat → Int64} {β : Type}
theorem m_bitten (Z : Frz F h) (H : IsHouse F ho r nm) (hm : rN r 2 ≤ 10) {d k e : Nat} (hd : d < rN r 2) (hk : k < 4) (he : e < rN r 2) {f : Int32 → Mo β} : (Mo.bind (M_X4_bitten ho (nI d) (nI k) (nI e)) f).1 h = (f (biteS r d k e)).1 h := by
  have H0 := H
  obtain ⟨ce, dr, ds, bt, fc, fd, fb, fo, h1, h2, h3, h4, h5, h6, h7, h8, h9⟩ := H0
  refine ev_call ?_
  unfold M_X4_bitten
  rw [hs_chk Z H, ev_R (Z _ _ h1) (by decide) rfl]
  have e : (4 * nI d + nI k) * 10 + nI e = nI ((4 * d + k) * 10 + e) := by simp (disch := omega) only [tq_I, tq_L, tq_sI, tq_sL, tq_lv, tq_pure, lvT, TM.bind_assoc, TM.pure_bind, TM.bind_pure, te_An, te_Bn, te_sAn, te_sBn, t_doors, t_hasn, t_isIn, t_of0, t_of1, t_of2, t_of3, t_of4, t_of5, t_of6, t_of7, lit, nI_add, nI_mul, nI_subn, le_t, le_f, lt_t, lt_f, eq_t, eq_f, eqm_f, ltz_f, cond_true, cond_false, if_true, if_false]
  rw [e, ev_ald (Z _ _ h5) (gIn_nI (by omega) (by decide)), nI_clamp (by omega), h9 d k _ hd hk he]
  rfl
theorem m_domain (Z : Frz F h) (H : IsHouse F ho r nm) (ok : okRow r) {d : Nat} (hd : d < rN r 2) {f : Int32 → Mo β} : (Mo.bind (M_X4_domain ho (nI d)) f).1 h = (f (domR r d)).1 h := ev_call (domain_run Z H ok hd)
theorem m_isCell (Z : Frz F h) (H : IsHouse F ho r nm) {p q : Int32} {f : Bool → Mo β} : (Mo.bind (M_X4_isCell ho p q) f).1 h = (f (isCellB r p q)).1 h := ev_call (isCell_run Z H p q)
end
section
variable {n : Nat} {F : Fz} {G : gH} {xs : XS} {ho : Nat} {r : Row} {nm : Nat → Int64} {β : Type}
theorem m_isDoor (Z : FrzX n F G) (H : IsHouse F ho r nm) (e1 : xs.2.1 200 = some ho) {p : Int32} {f : Bool → Mo β} : (Mo.bind (M_X1_isDoor n p) f).1 (mkX n G xs) = (f (isDoorB r p)).1 (mkX n G xs) := ev_call (isDoor_run (Z xs) e1 H p)
theorem m_isHang {p : Int32} {h : gH} {f : Bool → Mo β} : (Mo.bind (M_X1_isHanging p) f).1 h = (f (isInB p 0 3)).1 h := ev_call (isHang_run p h)
end
section
variable {β : Type} {m : MS} {r : Row}
theorem t_isDoor (ok : okRow r) (hr : m.2.2.1 14 = r) {p : Int32} {f : Bool → TM β} : TM.bind (M_X10_isDoor p) f m = f (isDoorB r p) m := t_of (isDoor_runT hr ok p)
theorem t_isCell (ok : okRow r) (hr : m.2.2.1 14 = r) {p q : Int32} {f : Bool → TM β} : TM.bind (M_X10_isCell p q) f m = f (isCellB r p q) m := t_of (isCell_runT hr ok p q)
theorem t_layA (hb : m.1 22 = 1) {f : Unit → TM β} : TM.bind M_X10_lay f m = f () m := t_of (lay_again hb)
end
/-! ===== which hangings bite ===== -/
theorem biteS_has (r : Row) (d h e : Nat) (hne : e ≠ d) (k : Nat) (hk : k < 4) : hasB (biteS r d h e) k = biteR r d h e k := by
  have key : ∀ b0 b1 b2 b3 : Bool, ∀ k : Nat, k < 4 → hasB ((((0 ||| (if b0 then oneB 0 else 0)) ||| (if b1 then oneB 1 else 0)) ||| (if b2 then oneB 2 else 0)) ||| (if b3 then oneB 3 else 0)) k = (([b0, b1, b2, b3] : List Bool).getD k false) := by decide
  have st : ∀ (b : Bool) (v : Int32) (g : Nat), (if b then v ||| oneB g else v) = v ||| (if b then oneB g else 0) := fun b v g => by
    cases b with
    | true => rfl
    | false => exact (or_zero32 v).symm
  unfold biteS
  rw [if_neg hne]
  show hasB ((List.range 4).foldl _ 0) k = _
  simp only [List.range_succ, List.range_zero, List.foldl_append, List.foldl_cons, List.foldl_nil, List.nil_append]
  rw [st, st, st, st, key _ _ _ _ k hk]
  rcases (show k = 0 ∨ k = 1 ∨ k = 2 ∨ k = 3 by omega) with rfl | rfl | rfl | rfl <;> rfl
theorem biteR_comm (r : Row) (d h e g : Nat) : biteR r d h e g = biteR r e g d h := by
  unfold biteR
  rw [Int64.and_comm (bitsLow _), Int64.and_comm (bitsHigh _)]
theorem lgz_t {α : Type} {x : Int64} {a b : α} (h : x = 0) [Decidable (lg_cmp x 0 = nI 0)] : (if lg_cmp x 0 = nI 0 then a else b) = a := if_pos ((lg_cmp0 x).mpr h)
theorem lgz_f {α : Type} {x : Int64} {a b : α} (h : ¬ x = 0) [Decidable (lg_cmp x 0 = nI 0)] : (if lg_cmp x 0 = nI 0 then a else b) = b := if_neg (fun q => h ((lg_cmp0 x).mp q))
section
variable {β : Type} {m : MS} {r : Row} {D : Nat}
theorem t_bite (S : swOk m r D) (hD : D ≤ 10) {d h e g : Nat} (hd : d < D) (hh : h < 4) (he : e < D) (hg : g < 4) {f : Bool → TM β} : TM.bind (M_X10_bite (nI d) (nI h) (nI e) (nI g)) f m = f (biteR r d h e g) m := by
  refine t_of ?_
  unfold M_X10_bite biteR
  obtain ⟨a1, a2⟩ := S.2 d h hd hh
  obtain ⟨b1, b2⟩ := S.2 e g he hg
  simp (disch := omega) only [tq_I, tq_L, tq_sI, tq_sL, tq_lv, tq_pure, lvT, TM.bind_assoc, TM.pure_bind, TM.bind_pure, te_An, te_Bn, te_sAn, te_sBn, t_doors, t_hasn, t_isIn, t_of0, t_of1, t_of2, t_of3, t_of4, t_of5, t_of6, t_of7, lit, nI_add, nI_mul, nI_subn, le_t, le_f, lt_t, lt_f, eq_t, eq_f, eqm_f, ltz_f, cond_true, cond_false, if_true, if_false, a1, b1]
  by_cases z : bitsLow (sweptC r d h) &&& bitsLow (sweptC r e g) = 0
  · rw [lgz_t z]
    simp (disch := omega) only [tq_I, tq_L, tq_sI, tq_sL, tq_lv, tq_pure, lvT, TM.bind_assoc, TM.pure_bind, TM.bind_pure, te_An, te_Bn, te_sAn, te_sBn, t_doors, t_hasn, t_isIn, t_of0, t_of1, t_of2, t_of3, t_of4, t_of5, t_of6, t_of7, lit, nI_add, nI_mul, nI_subn, le_t, le_f, lt_t, lt_f, eq_t, eq_f, eqm_f, ltz_f, cond_true, cond_false, if_true, if_false, a2, b2]
    by_cases y : bitsHigh (sweptC r d h) &&& bitsHigh (sweptC r e g) = 0
    · rw [lgz_t y, z, y]; rfl
    · rw [lgz_f y, show (bitsHigh (sweptC r d h) &&& bitsHigh (sweptC r e g) != 0) = true from bne_iff_ne.mpr y, Bool.or_true]; rfl
  · rw [lgz_f z, show (bitsLow (sweptC r d h) &&& bitsLow (sweptC r e g) != 0) = true from bne_iff_ne.mpr z, Bool.true_or]; rfl
end
