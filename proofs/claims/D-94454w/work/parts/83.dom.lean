set_option maxRecDepth 100000
def domF (r : Row) (d i : Nat) : Int32 := (List.range i).foldl (fun v h => if hasB (r (115 + 10 * d)) h && isFitR r d h then v ||| oneB h else v) 0
theorem domF_4 (r : Row) (d : Nat) : domF r d 4 = domR r d := rfl
theorem or_zero32 (x : Int32) : x ||| 0 = x := by
  apply Int32.toBitVec_inj.mp
  simp
theorem domF_succ (r : Row) (d i : Nat) : domF r d (i + 1) = domF r d i ||| (if hasB (r (115 + 10 * d)) i && isFitR r d i then oneB i else 0) := by
  unfold domF
  rw [List.range_succ, List.foldl_append]
  simp only [List.foldl_cons, List.foldl_nil]
  split
  · rfl
  · rw [or_zero32]
theorem dom_has (r : Row) (d k : Nat) (hk : k < 4) : hasB (domR r d) k = (hasB (r (115 + 10 * d)) k && isFitR r d k) := by
  have key : ∀ b0 b1 b2 b3 : Bool, ∀ k : Nat, k < 4 → hasB ((((0 ||| (if b0 then oneB 0 else 0)) ||| (if b1 then oneB 1 else 0)) ||| (if b2 then oneB 2 else 0)) ||| (if b3 then oneB 3 else 0)) k = (([b0, b1, b2, b3] : List Bool).getD k false) := by decide
  rw [← domF_4, domF_succ, domF_succ, domF_succ, domF_succ]
  show hasB ((((0 ||| _) ||| _) ||| _) ||| _) k = _
  rw [key _ _ _ _ k hk]
  rcases (show k = 0 ∨ k = 1 ∨ k = 2 ∨ k = 3 by omega) with rfl | rfl | rfl | rfl <;> rfl
theorem one_run (k : Nat) (h : gH) : (M_X1_one (nI k)).1 h = some (oneB k, h) := rfl
theorem domain_run {F : Fz} {h : gH} {ho : Nat} {r : Row} {nm : Nat → Int64} (Z : Frz F h) (H : IsHouse F ho r nm) (ok : okRow r) {d : Nat} (hd : d < rN r 2) : (M_X4_domain ho (nI d)).1 h = some (domR r d, h) := by
  have hm := ok.2.2.1.2
  have hwh := (ok.2.2.2.2.2.1 d hd).2.2.2.2.2.2.2.1
  obtain ⟨q, D, e3⟩ := hs_door Z H hd hm
  have D0 := D
  obtain ⟨na, lv, sw, cn, hg, fl, fs, fc, d1, -⟩ := D0
  unfold M_X4_domain
  rw [hs_chk Z H]
  refine (Mo.bind_of (a := domR r d) (h1 := h) ?_).trans rfl
  refine Mo.loop_count (S := Int32 × Int32) (fun i => (domF r d i, nI i)) 4 (fun _ => h) (fun i hi => ?_) ?_ 4 0 rfl
  · dsimp only
    rw [if_neg (show ¬ (4 : Int32) ≤ nI i from nI_ge (b := 4) hi (by decide)), e3, ev_I (Z _ _ d1) (by decide) rfl, ev_call (has_run _ _ _)]
    rw [Mo.bind_of (a := if hasB (r (115 + 10 * d)) i && isFitR r d i then oneB i else 0) (h1 := h) (by
      cases hasB (r (115 + 10 * d)) i with
      | false => rfl
      | true =>
        simp only [cond_true]
        rw [e3, ev_call (dfit_run Z D hwh hi)]
        cases isFitR r d i <;> rfl)]
    rw [ev_lv, ← domF_succ, ev_lv, nI_succ]
    rfl
  · dsimp only
    rw [if_pos (show (4 : Int32) ≤ nI 4 from nI_le (Nat.le_refl 4) (by decide))]
    rfl
/-- rows that differ in hangings alone -/
def upH (r r' : Row) : Prop := ∀ i, (∀ e, e < 10 → i ≠ 114 + 10 * e) → r' i = r i
theorem leafL_up {r r' : Row} (u : upH r r') (d h a : Nat) : leafL r' d h a = leafL r d h a := by
  unfold leafL rN
  rw [u (110 + 10 * d) (fun e _ => by omega), u (111 + 10 * d) (fun e _ => by omega), u (112 + 10 * d) (fun e _ => by omega), u (113 + 10 * d) (fun e _ => by omega)]
theorem inH_up {r r' : Row} (u : upH r r') (p : Int × Int) : inH r' p = inH r p := by
  unfold inH rN
  rw [u 0 (fun e _ => by omega), u 1 (fun e _ => by omega)]
theorem canB_up {r r' : Row} (u : upH r r') (c10 : rN r 0 ≤ 10) (r10 : rN r 1 ≤ 10) (d h a : Nat) : canB r' d h a = canB r d h a := by
  unfold canB freeL
  rw [leafL_up u]
  congr 1
  congr 1
  funext p
  rw [inH_up u]
  cases hi : inH r p with
  | false => rfl
  | true =>
    unfold inH at hi
    simp only [Bool.and_eq_true, decide_eq_true_eq] at hi
    rw [u (10 + cellN p) (fun e _ => by unfold cellN; omega)]
theorem leafC_up {r r' : Row} (u : upH r r') (d h a : Nat) : leafC r' d h a = leafC r d h a := by unfold leafC; rw [leafL_up u]
theorem sweptC_up {r r' : Row} (u : upH r r') (c10 : rN r 0 ≤ 10) (r10 : rN r 1 ≤ 10) (d h : Nat) : sweptC r' d h = sweptC r d h := by
  unfold sweptC
  rw [canB_up u c10 r10, canB_up u c10 r10, leafC_up u, leafC_up u]
theorem biteS_up {r r' : Row} (u : upH r r') (c10 : rN r 0 ≤ 10) (r10 : rN r 1 ≤ 10) (d h e : Nat) : biteS r' d h e = biteS r d h e := by
  have : ∀ g, biteR r' d h e g = biteR r d h e g := fun g => by unfold biteR; rw [sweptC_up u c10 r10, sweptC_up u c10 r10]
  unfold biteS
  simp only [this]
theorem canS_up {r r' : Row} (u : upH r r') (c10 : rN r 0 ≤ 10) (r10 : rN r 1 ≤ 10) (d h : Nat) : canS r' d h = canS r d h := by
  unfold canS
  rw [canB_up u c10 r10, canB_up u c10 r10]
theorem door_up {F : Fz} {a : Nat} {r r' : Row} {nm : Nat → Int64} {d : Nat} (u : upH r r') (c10 : rN r 0 ≤ 10) (r10 : rN r 1 ≤ 10) (D : IsDoor F a r nm d) : IsDoor F a r' nm d := by
  obtain ⟨na, lv, sw, cn, hg, fl, fs, fc, d1, d2, d3, d4, d5, d6, d7, d8⟩ := D
  refine ⟨na, lv, sw, cn, hg, fl, fs, fc, ?_, d2, d3, d4, d5, fun h k hh hk => ?_, fun h hh => ?_, fun h hh => ?_⟩
  · rw [u (110 + 10 * d) (fun e _ => by omega), u (111 + 10 * d) (fun e _ => by omega), u (112 + 10 * d) (fun e _ => by omega), u (113 + 10 * d) (fun e _ => by omega), u (115 + 10 * d) (fun e _ => by omega), u (116 + 10 * d) (fun e _ => by omega), u (117 + 10 * d) (fun e _ => by omega)]
    exact d1
  · obtain ⟨c, e1, e2⟩ := d6 h k hh hk
    exact ⟨c, e1, by rw [leafC_up u, leafL_up u]; exact e2⟩
  · obtain ⟨c, b, e1, e2⟩ := d7 h hh
    exact ⟨c, b, e1, by rw [sweptC_up u c10 r10]; exact e2⟩
  · rw [canS_up u c10 r10]; exact d8 h hh
theorem house_up {F : Fz} {a : Nat} {r r' : Row} {nm : Nat → Int64} (u : upH r r') (c10 : rN r 0 ≤ 10) (r10 : rN r 1 ≤ 10) (d6 : rN r 3 ≤ 6) (H : IsHouse F a r nm) : IsHouse F a r' nm := by
  obtain ⟨ce, dr, ds, bt, fc, fd, fb, fo, h1, h2, h3, h4, h5, h6, h7, h8, h9⟩ := H
  have n0 : rN r' 0 = rN r 0 := by unfold rN; rw [u 0 (fun e _ => by omega)]
  have n1 : rN r' 1 = rN r 1 := by unfold rN; rw [u 1 (fun e _ => by omega)]
  have n2 : rN r' 2 = rN r 2 := by unfold rN; rw [u 2 (fun e _ => by omega)]
  have n3 : rN r' 3 = rN r 3 := by unfold rN; rw [u 3 (fun e _ => by omega)]
  refine ⟨ce, dr, ds, bt, fc, fd, fb, fo, ?_, h2, h3, h4, h5, fun x y hx hy => ?_, fun k hk => ?_, fun d hd => ?_, fun d h e hd hh he => ?_⟩
  · rw [u 0 (fun e _ => by omega), u 1 (fun e _ => by omega), u 2 (fun e _ => by omega), u 3 (fun e _ => by omega), u 4 (fun e _ => by omega)]
    exact h1
  · rw [n0] at hx; rw [n1] at hy
    rw [u (210 + (10 * y + x)) (fun e _ => by omega), u (10 + (10 * y + x)) (fun e _ => by omega)]
    exact h6 x y hx hy
  · rw [n3] at hk
    rw [u (310 + k) (fun e _ => by omega)]
    exact h7 k hk
  · rw [n2] at hd
    obtain ⟨q, e1, e2⟩ := h8 d hd
    exact ⟨q, e1, door_up u c10 r10 e2⟩
  · rw [n2] at hd he
    rw [biteS_up u c10 r10]
    exact h9 d h e hd hh he
