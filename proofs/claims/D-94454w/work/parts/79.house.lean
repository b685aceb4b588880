set_option maxRecDepth 100000
/-- what is frozen is so in the heap -/
def Frz (F : Fz) (h : gH) : Prop := ∀ a c, F a = some c → h.1 a = c
theorem RelC.frz {n : Nat} {F : Fz} {g : gH} {xs : XS} {ms : MS} (R : RelC n F g xs ms) : Frz F (mkX n (mkM (n + 50) g ms) xs) := by
  intro a c h
  rw [← mk_comm]
  exact R.1.frozen h
def isDoorB (r : Row) (p : Int32) : Bool := isInB p 0 (r 2 - 1)
def isCellB (r : Row) (p q : Int32) : Bool := isInB p 0 (r 0 - 1) && isInB q 0 (r 1 - 1)
section
variable {F : Fz} {h : gH} {ho : Nat} {r : Row} {nm : Nat → Int64} {β : Type}
theorem hs_cols (Z : Frz F h) (H : IsHouse F ho r nm) {f : Int32 → Mo β} : (Mo.bind (gI [3] ho 4) f).1 h = (f (r 0)).1 h := by
  obtain ⟨ce, dr, ds, bt, fc, fd, fb, fo, h1, -⟩ := H
  exact ev_I (Z _ _ h1) (by decide) rfl
theorem hs_rows (Z : Frz F h) (H : IsHouse F ho r nm) {f : Int32 → Mo β} : (Mo.bind (gI [3] ho 5) f).1 h = (f (r 1)).1 h := by
  obtain ⟨ce, dr, ds, bt, fc, fd, fb, fo, h1, -⟩ := H
  exact ev_I (Z _ _ h1) (by decide) rfl
theorem hs_many (Z : Frz F h) (H : IsHouse F ho r nm) {f : Int32 → Mo β} : (Mo.bind (gI [3] ho 6) f).1 h = (f (r 2)).1 h := by
  obtain ⟨ce, dr, ds, bt, fc, fd, fb, fo, h1, -⟩ := H
  exact ev_I (Z _ _ h1) (by decide) rfl
theorem hs_dmany (Z : Frz F h) (H : IsHouse F ho r nm) {f : Int32 → Mo β} : (Mo.bind (gI [3] ho 7) f).1 h = (f (r 3)).1 h := by
  obtain ⟨ce, dr, ds, bt, fc, fd, fb, fo, h1, -⟩ := H
  exact ev_I (Z _ _ h1) (by decide) rfl
theorem hs_bed (Z : Frz F h) (H : IsHouse F ho r nm) {f : Int32 → Mo β} : (Mo.bind (gI [3] ho 8) f).1 h = (f (r 4)).1 h := by
  obtain ⟨ce, dr, ds, bt, fc, fd, fb, fo, h1, -⟩ := H
  exact ev_I (Z _ _ h1) (by decide) rfl
theorem hs_chk (Z : Frz F h) (H : IsHouse F ho r nm) {f : Unit → Mo β} : (Mo.bind (chk [3] ho) f).1 h = (f ()).1 h := by
  obtain ⟨ce, dr, ds, bt, fc, fd, fb, fo, h1, -⟩ := H
  exact ev_chk (Z _ _ h1) (by decide)
/-- the class's cell (x, y) -/
def cellR (r : Row) (c : Nat) : Int32 := if 0 < r (210 + c) then 9 + r (210 + c) else r (10 + c)
theorem hs_cell (Z : Frz F h) (H : IsHouse F ho r nm) {x y : Nat} (hx : x < rN r 0) (hy : y < rN r 1) (hx9 : x < 10) (hy9 : y < 10) {f : Int32 → Mo β} : (Mo.bind (gR [3] ho 0) (fun v7 => Mo.bind (aldI 0 v7 (nI (10 * y + x))) f)).1 h = (f (cellR r (10 * y + x))).1 h := by
  obtain ⟨ce, dr, ds, bt, fc, fd, fb, fo, h1, h2, h3, h4, h5, h6, -⟩ := H
  rw [ev_R (Z _ _ h1) (by decide) rfl, ev_ald (Z _ _ h2) (gIn_nI (by omega) (by decide)), nI_clamp (by omega), h6 x y hx hy]
  rfl
/-- the class's door d -/
theorem hs_door (Z : Frz F h) (H : IsHouse F ho r nm) {d : Nat} (hd : d < rN r 2) (hm : rN r 2 ≤ 10) : ∃ q, IsDoor F q r nm d ∧ ∀ {γ : Type} {f : Nat → Mo γ}, (Mo.bind (gR [3] ho 2) (fun v => Mo.bind (aldR 5 v (nI d)) f)).1 h = (f q).1 h := by
  obtain ⟨ce, dr, ds, bt, fc, fd, fb, fo, h1, h2, h3, h4, h5, h6, h7, h8, -⟩ := H
  obtain ⟨q, e1, e2⟩ := h8 d hd
  refine ⟨q, e2, fun {γ f} => ?_⟩
  rw [ev_R (Z _ _ h1) (by decide) rfl, ev_aldR (v := q) (Z _ _ h4) (gIn_nI (by omega) (by decide)) (by rw [nI_clamp (by omega)]; exact e1)]
theorem isCell_run (Z : Frz F h) (H : IsHouse F ho r nm) (p q : Int32) : (M_X4_isCell ho p q).1 h = some (isCellB r p q, h) := by
  unfold M_X4_isCell isCellB
  rw [hs_chk Z H, hs_cols Z H, ev_call (isIn_run _ _ _ _)]
  cases isInB p 0 (r 0 - 1) with
  | false => rfl
  | true =>
    simp only [cond_true, Mo.bind_assoc, Mo.pure_bind]
    rw [hs_rows Z H, ev_call (isIn_run _ _ _ _)]
    cases isInB q 0 (r 1 - 1) <;> rfl
end
theorem isCellB_iff {r : Row} (ok : okRow r) {p q : Int32} : isCellB r p q = true ↔ p = nI p.toNatClampNeg ∧ q = nI q.toNatClampNeg ∧ p.toNatClampNeg < rN r 0 ∧ q.toNatClampNeg < rN r 1 := by
  obtain ⟨⟨a1, a2⟩, ⟨b1, b2⟩, -⟩ := ok
  unfold isCellB
  rw [Bool.and_eq_true, a1, b1, isInB_n (by omega), isInB_n (by omega)]
  constructor
  · rintro ⟨⟨h1, h2⟩, h3, h4⟩; exact ⟨h1, h3, h2, h4⟩
  · rintro ⟨h1, h3, h2, h4⟩; exact ⟨⟨h1, h2⟩, h3, h4⟩
theorem isDoorB_iff {r : Row} (ok : okRow r) {p : Int32} : isDoorB r p = true ↔ p = nI p.toNatClampNeg ∧ p.toNatClampNeg < rN r 2 := by
  obtain ⟨-, -, ⟨a1, a2⟩, -⟩ := ok
  unfold isDoorB
  rw [a1, isInB_n (by omega)]
theorem isDoor_runT {m : MS} {r : Row} (hr : m.2.2.1 14 = r) (ok : okRow r) (p : Int32) : M_X10_isDoor p m = some (isDoorB r p, m) := by
  obtain ⟨-, -, ⟨a1, a2⟩, -⟩ := ok
  unfold M_X10_isDoor
  have hd : M_X10_doors m = some (r 2, m) := by
    unfold M_X10_doors
    rw [te_A (by decide), hr]
    rfl
  rcases rng p a1 (by omega) with ⟨b1, b2, b3, b4, b5⟩ | ⟨b1, b2⟩
  · refine (t_of (a := true) (m1 := m) ?_).trans (by unfold isDoorB; rw [b1]; rfl)
    rw [if_neg b4, t_of hd, if_neg b5]
    rfl
  · refine (t_of (a := false) (m1 := m) ?_).trans (by unfold isDoorB; rw [b1]; rfl)
    by_cases b0 : p < 0
    · rw [if_pos b0]; rfl
    · rw [if_neg b0, t_of hd, if_pos (b2.resolve_left b0)]; rfl
theorem isCell_runT {m : MS} {r : Row} (hr : m.2.2.1 14 = r) (ok : okRow r) (p q : Int32) : M_X10_isCell p q m = some (isCellB r p q, m) := by
  obtain ⟨⟨a1, a2⟩, ⟨c1, c2⟩, -⟩ := ok
  unfold M_X10_isCell
  rcases rng p a1 (by omega) with ⟨b1, b2, b3, b4, b5⟩ | ⟨b1, b2⟩
  · rcases rng q c1 (by omega) with ⟨d1, d2, d3, d4, d5⟩ | ⟨d1, d2⟩
    · refine (t_of (a := true) (m1 := m) ?_).trans (by unfold isCellB; rw [b1, d1]; rfl)
      rw [if_neg b4, te_A (by decide), if_neg (by rw [hr]; exact b5), if_neg d4, te_A (by decide), if_neg (by rw [hr]; exact d5)]
      rfl
    · refine (t_of (a := false) (m1 := m) ?_).trans (by unfold isCellB; rw [b1, d1]; rfl)
      rw [if_neg b4, te_A (by decide), if_neg (by rw [hr]; exact b5)]
      by_cases d0 : q < 0
      · rw [if_pos d0]; rfl
      · rw [if_neg d0, te_A (by decide), if_pos (by rw [hr]; exact d2.resolve_left d0)]; rfl
  · refine (t_of (a := false) (m1 := m) ?_).trans (by unfold isCellB; rw [b1]; rfl)
    by_cases b0 : p < 0
    · rw [if_pos b0]; rfl
    · rw [if_neg b0, te_A (by decide), if_pos (by rw [hr]; exact b2.resolve_left b0)]; rfl
theorem nI_mul (a b : Nat) : nI a * nI b = nI (a * b) := by
  unfold nI
  rw [Int32.ofNat_mul]
theorem idx10 {p q : Int32} (hp : p = nI p.toNatClampNeg) (hq : q = nI q.toNatClampNeg) : 10 * q + p = nI (10 * q.toNatClampNeg + p.toNatClampNeg) := by
  rw [← nI_add, ← nI_mul, ← hp, ← hq]
  rfl
theorem idxK {p q : Int32} (k : Nat) {kv : Int32} (hk : kv = nI k) (hp : p = nI p.toNatClampNeg) (hq : q = nI q.toNatClampNeg) : kv + 10 * q + p = nI (k + (10 * q.toNatClampNeg + p.toNatClampNeg)) := by
  rw [← nI_add, ← nI_add, ← nI_mul, ← hp, ← hq, hk, Int32.add_assoc]
  rfl
theorem op_41 {n : Nat} {h : gH} (R : Rel n h) (a : Nat → Int32) : OpOk n h (LS_41 n (n + 50) (n + 83) a) := by
  obtain ⟨F, g, xs, ms, rfl, R⟩ := R
  have R := R.t0 0
  obtain ⟨ho, dy, e1, e2, hH, -, -, -, -, -, hD, -⟩ := R.2.2.2.2.2.1
  have Z := R.frz
  have hl := lay_run R.2.2.2.2.1
  have hr := (lyd_row R.2.2.2.2.1).1
  obtain ⟨dq, df, d1, -⟩ := hD
  have Z : Frz F (mkX n (mkM (n + 50) g ms) xs) := by
    intro q c hq
    have := R.1.frozen (ms := ms) hq
    rw [mk_comm] at this
    exact this
  refine OpOk.of (F' := F) (v := if a 1 = 0 then eRow (uI ms 0 0) 0 else if a 1 = 1 then eRow (uI ms 0 0) 1 else if a 1 = 2 then eRow (uI ms 0 0) 2 else if a 1 = 3 then eRow (uI ms 0 0) 3 else if a 1 = 4 then eRow (uI ms 0 0) 341 else if a 1 = 5 then xs.1 1 else -1) (g' := g) (xs' := xs) ?_ (ms' := lyd (uI ms 0 0)) ?_ R.lyd (by omega) (by omega)
  · unfold M_X1_count
    rw [x_chk]
    by_cases h0 : a 1 = 0
    · simp only [if_pos h0]; rw [x_R9, x_w0R0 e1, hs_cols Z hH]; rfl
    · simp only [if_neg h0]
      by_cases h1 : a 1 = 1
      · simp only [if_pos h1]; rw [x_R9, x_w0R0 e1, hs_rows Z hH]; rfl
      · simp only [if_neg h1]
        by_cases h2 : a 1 = 2
        · simp only [if_pos h2]; rw [x_R9, x_w0R0 e1, hs_many Z hH]; rfl
        · simp only [if_neg h2]
          by_cases h3 : a 1 = 3
          · simp only [if_pos h3]; rw [x_R9, x_w0R0 e1, hs_dmany Z hH]; rfl
          · simp only [if_neg h3]
            by_cases h4 : a 1 = 4
            · simp only [if_pos h4]; rw [x_R11 e2, ev_I (Z _ _ d1) (by decide) rfl]; rfl
            · simp only [if_neg h4]
              by_cases h5 : a 1 = 5
              · simp only [if_pos h5]; rw [x_I1]; rfl
              · simp only [if_neg h5]; rfl
  · unfold M_X10_count
    rw [te_sI, t_of hl]
    by_cases h0 : a 1 = 0
    · simp only [if_pos h0]; rw [te_A (by decide), hr]; rfl
    · simp only [if_neg h0]
      by_cases h1 : a 1 = 1
      · simp only [if_pos h1]; rw [te_A (by decide), hr]; rfl
      · simp only [if_neg h1]
        by_cases h2 : a 1 = 2
        · simp only [if_pos h2]; unfold M_X10_doors; rw [t_of (te_A (by decide)), hr]; rfl
        · simp only [if_neg h2]
          by_cases h3 : a 1 = 3
          · simp only [if_pos h3]; rw [te_A (by decide), hr]; rfl
          · simp only [if_neg h3]
            by_cases h4 : a 1 = 4
            · simp only [if_pos h4]; rw [te_A (by decide), hr]; rfl
            · simp only [if_neg h4]
              by_cases h5 : a 1 = 5
              · simp only [if_pos h5]; rw [te_I, lyd_same.1 2 (by decide), R.2.1.1]; rfl
              · simp only [if_neg h5]; rfl
theorem op_4 {n : Nat} {h : gH} (R : Rel n h) (a : Nat → Int32) : OpOk n h (LS_4 n (n + 50) (n + 83) a) := by
  obtain ⟨F, g, xs, ms, rfl, R⟩ := R
  have R := R.t0 0
  obtain ⟨ho, dy, e1, e2, hH, ok, -⟩ := R.2.2.2.2.2.1
  have hl := lay_run R.2.2.2.2.1
  have hr := (lyd_row R.2.2.2.2.1).1
  have Z : Frz F (mkX n (mkM (n + 50) g ms) xs) := by
    intro q c hq
    have := R.1.frozen (ms := ms) hq
    rw [mk_comm] at this
    exact this
  cases hb : isCellB (eRow (uI ms 0 0)) (a 1) (a 2) with
  | false =>
    refine OpOk.of (F' := F) (v := -1) (g' := g) (xs' := xs) ?_ (ms' := lyd (uI ms 0 0)) ?_ R.lyd (by omega) (by omega)
    · unfold M_X1_cell
      rw [x_chk, x_R9, x_w0R0 e1, ev_call (isCell_run Z hH _ _), hb]; rfl
    · unfold M_X10_cell
      rw [te_sI, t_of hl, t_of (isCell_runT hr ok _ _), hb]; rfl
  | true =>
    obtain ⟨p1, p2, p3, p4⟩ := (isCellB_iff ok).mp hb
    have c10 := ok.1.2
    have r10 := ok.2.1.2
    refine OpOk.of (F' := F) (v := cellR (eRow (uI ms 0 0)) (10 * (a 2).toNatClampNeg + (a 1).toNatClampNeg)) (g' := g) (xs' := xs) ?_ (ms' := lyd (uI ms 0 0)) ?_ R.lyd (by omega) (by omega)
    · unfold M_X1_cell
      rw [x_chk, x_R9, x_w0R0 e1, ev_call (isCell_run Z hH _ _), hb]
      simp only [cond_true, Mo.bind_assoc, Mo.pure_bind]
      rw [x_R9, x_w0R0 e1, idx10 p1 p2, hs_cell Z hH p3 p4 (by omega) (by omega)]
      rfl
    · unfold M_X10_cell
      rw [te_sI, t_of hl, t_of (isCell_runT hr ok _ _), hb]
      simp only [cond_true]
      rw [idxK (kv := 210) 210 rfl p1 p2, te_A (gIn_nI (by omega) (by decide)), nI_clamp (by omega), hr]
      by_cases hw : eRow (uI ms 0 0) (210 + (10 * (a 2).toNatClampNeg + (a 1).toNatClampNeg)) ≤ 0
      · rw [t_of (a := eRow (uI ms 0 0) (10 + (10 * (a 2).toNatClampNeg + (a 1).toNatClampNeg))) (m1 := lyd (uI ms 0 0)) ?_]
        · unfold cellR; rw [if_neg (Int32.not_lt.mpr hw)]; rfl
        · rw [if_pos hw, idxK (kv := 10) 10 rfl p1 p2, te_A (gIn_nI (by omega) (by decide)), nI_clamp (by omega), hr]; rfl
      · rw [t_of (a := 9 + eRow (uI ms 0 0) (210 + (10 * (a 2).toNatClampNeg + (a 1).toNatClampNeg))) (m1 := lyd (uI ms 0 0)) ?_]
        · unfold cellR; rw [if_pos (Int32.not_le.mp hw)]; rfl
        · rw [if_neg hw]; rfl
