set_option maxRecDepth 100000
/-! ===== a young heap as a list of cells ===== -/
def hL (n : Nat) (l : List gA) (s : Nat) : gH := (fun a => if a < n then gDead else l.getD (a - n) gDead, n + l.length, s)
theorem h00_hL (n : Nat) : h00 n = hL n [] 0 := by
  unfold h00 hL
  refine Prod.ext ?_ rfl
  funext a
  simp
theorem hL_at {n i : Nat} {l : List gA} {s : Nat} {e : gA} (h : l[i]? = some e) : (hL n l s).1 (n + i) = e := by
  unfold hL
  simp only [if_neg (Nat.not_lt.mpr (Nat.le_add_right n i)), Nat.add_sub_cancel_left, List.getD_eq_getElem?_getD, h, Option.getD_some]
theorem hL_up {n i : Nat} {l : List gA} {s : Nat} {e e' : gA} (h : l[i]? = some e') : (va_up (hL n l s).1 (n + i) e, (hL n l s).2) = hL n (l.set i e) s := by
  have hi := (List.getElem?_eq_some_iff.mp h).1
  unfold hL
  refine Prod.ext ?_ ?_
  · funext a
    show va_up _ (n + i) e a = _
    by_cases z : a = n + i
    · subst z
      simp [va_up, List.getD_eq_getElem?_getD, List.getElem?_set, hi]
      exact fun h => absurd h (by omega)
    · simp only [va_up, if_neg z]
      by_cases y : a < n
      · simp [y]
      · simp only [if_neg y, List.getD_eq_getElem?_getD, List.getElem?_set]
        rw [if_neg (by omega)]
  · simp
theorem hL_push {n : Nat} {l : List gA} {s k : Nat} {e : gA} : (va_up (hL n l s).1 (n + l.length) e, n + l.length + 1, s + k) = hL n (l ++ [e]) (s + k) := by
  unfold hL
  refine Prod.ext ?_ ?_
  · funext a
    show va_up _ (n + l.length) e a = _
    by_cases z : a = n + l.length
    · subst z
      simp [va_up, List.getD_eq_getElem?_getD]
      exact fun h => absurd h (by omega)
    · simp only [va_up, if_neg z]
      by_cases y : a < n
      · simp [y]
      · simp only [if_neg y, List.getD_eq_getElem?_getD]
        by_cases x : a - n < l.length
        · rw [List.getElem?_append_left x]
        · rw [List.getElem?_eq_none (by omega), List.getElem?_eq_none (by simp; omega)]
  · simp [Nat.add_assoc]
theorem Mo.ext {α : Type} {x y : Mo α} (h : ∀ h, x.1 h = y.1 h) : x = y := Subtype.ext (funext h)
theorem Mo.bind_assoc {α β γ : Type} (x : Mo α) (f : α → Mo β) (g : β → Mo γ) : Mo.bind (Mo.bind x f) g = Mo.bind x (fun a => Mo.bind (f a) g) := by
  refine Mo.ext (fun h => ?_)
  simp only [Mo.bind_run]
  cases x.1 h with
  | none => rfl
  | some q => rfl
theorem Mo.pure_bind {α β : Type} (a : α) (f : α → Mo β) : Mo.bind (Mo.pure a) f = f a := Mo.ext (fun h => rfl)
section
variable {β : Type} {n s : Nat} {l : List gA}
theorem hL_nw (i : Nat) (hi : l.length = i) {ci N : Nat} {fs : List Value} {f : Nat → Mo β} : (Mo.bind (nw ci N fs) f).1 (hL n l s) = (f (n + i)).1 (hL n (l ++ [.inr (ci, fs)]) (s + N)) := by
  subst hi
  rw [← hL_push]
  exact Mo.bind_of rfl
theorem hL_nw0 {ci N : Nat} {fs : List Value} {f : Nat → Mo β} : (Mo.bind (nw ci N fs) f).1 (hL n [] s) = (f n).1 (hL n [.inr (ci, fs)] (s + N)) := hL_nw 0 rfl
theorem hL_nwI (i : Nat) (hi : l.length = i) {kd : Nat} {k : Int32} (hk : ¬ (k < 0 ∨ 100000 < k.toNatClampNeg)) {f : Nat → Mo β} : (Mo.bind (nwI kd k) f).1 (hL n l s) = (f (n + i)).1 (hL n (l ++ [.inl (kd, k.toNatClampNeg, .inl (fun _ => 0))]) (s + k.toNatClampNeg)) := by
  subst hi
  rw [← hL_push]
  refine Mo.bind_of ?_
  unfold nwI
  simp only [if_neg hk]
  rfl
theorem hL_nwR (i : Nat) (hi : l.length = i) {kd : Nat} {k : Int32} (hk : ¬ (k < 0 ∨ 100000 < k.toNatClampNeg)) {f : Nat → Mo β} : (Mo.bind (nwR kd k) f).1 (hL n l s) = (f (n + i)).1 (hL n (l ++ [.inl (kd, k.toNatClampNeg, .inr (.inr (fun _ => none)))]) (s + k.toNatClampNeg)) := by
  subst hi
  rw [← hL_push]
  refine Mo.bind_of ?_
  unfold nwR
  simp only [if_neg hk]
  rfl
theorem hL_nwL (i : Nat) (hi : l.length = i) {k : Int32} (hk : ¬ (k < 0 ∨ 100000 < k.toNatClampNeg)) {f : Nat → Mo β} : (Mo.bind (nwL k) f).1 (hL n l s) = (f (n + i)).1 (hL n (l ++ [.inl (1, k.toNatClampNeg, .inr (.inl (fun _ => 0)))]) (s + k.toNatClampNeg)) := by
  subst hi
  rw [← hL_push]
  refine Mo.bind_of ?_
  unfold nwL
  simp only [if_neg hk]
  rfl
theorem hL_put (i : Nat) {c k : Nat} {cs : List Nat} {fs : List Value} {v : Value} {f : Unit → Mo β} (h : l[i]? = some (.inr (c, fs))) (hc : c ∈ cs) (hk : k < fs.length) : (Mo.bind (pF cs (n + i) k v) f).1 (hL n l s) = (f ()).1 (hL n (l.set i (.inr (c, fs.set k v))) s) := by
  rw [ev_put (hL_at h) hc hk, hL_up h]
theorem hL_put0 {c k : Nat} {cs : List Nat} {fs : List Value} {v : Value} {f : Unit → Mo β} (h : l[0]? = some (.inr (c, fs))) (hc : c ∈ cs) (hk : k < fs.length) : (Mo.bind (pF cs n k v) f).1 (hL n l s) = (f ()).1 (hL n (l.set 0 (.inr (c, fs.set k v))) s) := hL_put 0 h hc hk
theorem hL_astS (i : Nat) {x m : Nat} {j : Int32} {g : Nat → Option Nat} {f : Unit → Mo β} (h : l[i]? = some (.inl (10, m, .inr (.inr g)))) (hj : gIn j m = true) (hx : x < 43) : (Mo.bind (astS (n + i) j x) f).1 (hL n l s) = (f ()).1 (hL n (l.set i (.inl (10, m, .inr (.inr (va_up g j.toNatClampNeg (some x)))))) s) := by
  rw [← hL_up h]
  refine Mo.bind_of ?_
  unfold astS Mo.wr
  simp only [hL_at h, hj, hx]
  simp
theorem hL_astI (i : Nat) {kd m : Nat} {j x : Int32} {g : Nat → Int32} {f : Unit → Mo β} (h : l[i]? = some (.inl (kd, m, .inl g))) (hj : gIn j m = true) : (Mo.bind (astI kd (n + i) j x) f).1 (hL n l s) = (f ()).1 (hL n (l.set i (.inl (kd, m, .inl (va_up g j.toNatClampNeg x)))) s) := by
  rw [ev_ast (hL_at h) hj, hL_up h]
theorem Mo.loop_inl {S E : Type} {b : S → Mo (S ⊕ E)} {s s' : S} {h h1 : gH} (e : (b s).1 h = some (.inl s', h1)) : (Mo.loop b s).1 h = (Mo.loop b s').1 h1 := by rw [Mo.loop_eq, e]
theorem Mo.loop_inr {S E : Type} {b : S → Mo (S ⊕ E)} {s : S} {x : E} {h h1 : gH} (e : (b s).1 h = some (.inr x, h1)) : (Mo.loop b s).1 h = some (x, h1) := by rw [Mo.loop_eq, e]
/-- a loop that counts: the heaps it goes through are H i -/
theorem Mo.loop_count {S E : Type} {b : S → Mo (S ⊕ E)} (c : Nat → S) (N : Nat) (H : Nat → gH) {x : E} {hE : gH} (step : ∀ i, i < N → (b (c i)).1 (H i) = some (.inl (c (i + 1)), H (i + 1))) (stop : (b (c N)).1 (H N) = some (.inr x, hE)) : ∀ k i, i + k = N → (Mo.loop b (c i)).1 (H i) = some (x, hE) := by
  intro k
  induction k with
  | zero =>
    intro i hi
    have : i = N := by omega
    subst this
    exact Mo.loop_inr stop
  | succ k ih =>
    intro i hi
    rw [Mo.loop_inl (step i (by omega))]
    exact ih (i + 1) (by omega)
theorem hL_loop (i j : Nat) (hij : i ≠ j) {fs : List Value} {f : Unit → Mo β} (hi : l[i]? = some (.inr (3, fs))) (h0 : fs[0]? = some (.ref (n + j))) (hj : l[j]? = some (.inl (0, 100, .inl (fun _ => 0)))) : (Mo.bind (Mo.loop (S := Int32) (E := Unit) (fun s5 => Mo.bind (gR [3] (n + i) 0) (fun v9 => Mo.bind (alen [0] v9) (fun v10 => if v10 ≤ s5 then Mo.pure (Sum.inr ()) else Mo.bind (gR [3] (n + i) 0) (fun v11 => Mo.bind (astI 0 v11 s5 1) (fun _ => Mo.lv (s5 + 1) (fun v12 => Mo.pure (Sum.inl v12))))))) 0) f).1 (hL n l s) = (f ()).1 (hL n (l.set j (.inl (0, 100, .inl (fun q => if q < 100 then 1 else 0)))) s) := by
  have hjl := (List.getElem?_eq_some_iff.mp hj).1
  have H0 : hL n l s = hL n (l.set j (.inl (0, 100, .inl (fun q => if q < 0 then 1 else 0)))) s := by
    have : l.set j (.inl (0, 100, .inl (fun q => if q < 0 then 1 else 0))) = l := by
      apply List.ext_getElem?
      intro k
      rw [List.getElem?_set]
      by_cases z : j = k
      · subst z; simp [hjl]
        rw [List.getElem?_eq_getElem hjl] at hj
        exact (Option.some.inj hj).symm
      · simp [z]
    rw [this]
  refine Mo.bind_of ?_
  rw [H0]
  refine Mo.loop_count (S := Int32) (c := nI) 100 (fun k => hL n (l.set j (.inl (0, 100, .inl (fun q => if q < k then 1 else 0)))) s) ?_ ?_ 100 0 rfl
  · intro k hk
    have e1 : (l.set j (.inl (0, 100, .inl (fun q => if q < k then 1 else 0))))[i]? = some (.inr (3, fs)) := by rw [List.getElem?_set, if_neg (Ne.symm hij)]; exact hi
    have e2 : (l.set j (.inl (0, 100, .inl (fun q => if q < k then 1 else 0))))[j]? = some (.inl (0, 100, .inl (fun q => if q < k then 1 else 0))) := by rw [List.getElem?_set, if_pos rfl, if_pos hjl]
    rw [ev_R (hL_at e1) (by decide) h0, ev_alen (hL_at e2) (by decide)]
    rw [if_neg (nI_ge hk (by decide)), ev_R (hL_at e1) (by decide) h0, ev_ast (hL_at e2) (by unfold gIn; rw [nI_clamp (by omega)]; simp [nI_pos (show k < 2 ^ 31 by omega)]; omega), hL_up e2]
    rw [List.set_set]
    have e3 : va_up (fun q => if q < k then (1 : Int32) else 0) (nI k).toNatClampNeg 1 = fun q => if q < k + 1 then 1 else 0 := by
      funext q
      rw [nI_clamp (by omega)]
      unfold va_up
      by_cases z : q = k
      · subst z; simp
      · by_cases y : q < k
        · simp only [if_neg z, if_pos y, if_pos (show q < k + 1 by omega)]
        · simp only [if_neg z, if_neg y, if_neg (show ¬ q < k + 1 by omega)]
    rw [e3]
    show some (Sum.inl (nI k + 1), _) = _
    rw [← nI_succ]
  · have e1 : (l.set j (.inl (0, 100, .inl (fun q => if q < 100 then 1 else 0))))[i]? = some (.inr (3, fs)) := by rw [List.getElem?_set, if_neg (Ne.symm hij)]; exact hi
    have e2 : (l.set j (.inl (0, 100, .inl (fun q => if q < 100 then 1 else 0))))[j]? = some (.inl (0, 100, .inl (fun q => if q < 100 then 1 else 0))) := by rw [List.getElem?_set, if_pos rfl, if_pos hjl]
    rw [ev_R (hL_at e1) (by decide) h0, ev_alen (hL_at e2) (by decide), if_pos (nI_le (Nat.le_refl _) (by decide))]
    rfl
end
/-- the cells that the constructors make -/
def cells0 (n : Nat) : List gA := [.inr (0, [.ref (n + 1), .int 0, .int 0, .int 0, .ref (n + 2), .ref (n + 3), .ref (n + 4), .ref (n + 5), .ref (n + 6), .ref (n + 7), .ref (n + 15), .ref (n + 23), .ref (n + 25), .ref (n + 26), .int 0, .ref (n + 27), .ref (n + 28), .ref (n + 29), .int 0, .int 0, .int 0, .ref (n + 30), .ref (n + 31), .ref (n + 32), .int 0, .int 0, .ref (n + 33), .ref (n + 34), .ref (n + 35), .ref (n + 36), .ref (n + 37), .int 0, .ref (n + 38), .int 0, .ref (n + 39), .ref (n + 40), .ref (n + 41), .ref (n + 42), .int 0, .int 0, .ref (n + 43), .ref (n + 44), .null, .ref (n + 47), .ref (n + 48), .ref (n + 49)]),
  .inl (2, 940, .inl (fun _ => 0)),
  .inr (1, [.null, .null, .null, .null, .null, .int 0, .int 0, .int 0]),
  .inl (10, 26, .inr (.inr (va_up (va_up (va_up (va_up (va_up (va_up (va_up (va_up (va_up (va_up (va_up (va_up (va_up (va_up (va_up (va_up (va_up (va_up (va_up (va_up (va_up (va_up (va_up (va_up (va_up (va_up (fun _ => none) 0 (some 0)) 1 (some 1)) 2 (some 2)) 3 (some 3)) 4 (some 4)) 5 (some 5)) 6 (some 6)) 7 (some 7)) 8 (some 8)) 9 (some 9)) 10 (some 10)) 11 (some 11)) 12 (some 12)) 13 (some 13)) 14 (some 14)) 15 (some 15)) 16 (some 16)) 17 (some 17)) 18 (some 18)) 19 (some 19)) 20 (some 20)) 21 (some 21)) 22 (some 22)) 23 (some 23)) 24 (some 24)) 25 (some 25)))),
  .inl (10, 4, .inr (.inr (va_up (va_up (va_up (va_up (fun _ => none) 0 (some 0)) 1 (some 1)) 2 (some 2)) 3 (some 3)))),
  .inl (10, 4, .inr (.inr (va_up (va_up (va_up (va_up (fun _ => none) 0 (some 13)) 1 (some 14)) 2 (some 15)) 3 (some 16)))),
  .inl (10, 4, .inr (.inr (va_up (va_up (va_up (va_up (fun _ => none) 0 (some 9)) 1 (some 10)) 2 (some 11)) 3 (some 12)))),
  .inr (2, [.ref (n + 8), .ref (n + 13), .ref (n + 14), .int (-1), .int 0, .int 0]),
  .inr (3, [.ref (n + 9), .ref (n + 10), .ref (n + 11), .ref (n + 12), .int 0, .int 0, .int 0, .int 0, .int (-1)]),
  .inl (0, 100, .inl (fun q => if q < 100 then 1 else 0)),
  .inl (0, 18, .inl (fun _ => 0)),
  .inl (5, 10, .inr (.inr (fun _ => none))),
  .inl (0, 400, .inl (fun _ => 0)),
  .inl (0, 10, .inl (fun _ => 0)),
  .inl (0, 10, .inl (fun _ => 0)),
  .inr (2, [.ref (n + 16), .ref (n + 21), .ref (n + 22), .int (-1), .int 0, .int 0]),
  .inr (3, [.ref (n + 17), .ref (n + 18), .ref (n + 19), .ref (n + 20), .int 0, .int 0, .int 0, .int 0, .int (-1)]),
  .inl (0, 100, .inl (fun q => if q < 100 then 1 else 0)),
  .inl (0, 18, .inl (fun _ => 0)),
  .inl (5, 10, .inr (.inr (fun _ => none))),
  .inl (0, 400, .inl (fun _ => 0)),
  .inl (0, 10, .inl (fun _ => 0)),
  .inl (0, 10, .inl (fun _ => 0)),
  .inr (4, [.ref (n + 24), .int 0]),
  .inl (6, 60, .inr (.inr (fun _ => none))),
  .inr (5, [.int 900, .int 0, .int 0, .int 0, .int 0, .int 0, .long 0, .ref n, .null, .ref n]),
  .inr (6, [.int 600, .int 0, .int 0, .int 0, .int 0, .int 0, .long 0, .ref n, .ref n]),
  .inl (0, 10, .inl (fun _ => 0)),
  .inl (0, 10, .inl (fun _ => 0)),
  .inl (0, 10, .inl (fun _ => 0)),
  .inl (0, 10, .inl (fun _ => 0)),
  .inl (0, 10, .inl (fun _ => 0)),
  .inl (0, 10, .inl (fun _ => 0)),
  .inl (0, 10, .inl (fun _ => 0)),
  .inl (0, 10, .inl (fun _ => 0)),
  .inl (0, 10, .inl (fun _ => 0)),
  .inl (0, 1024, .inl (fun _ => 0)),
  .inl (0, 1024, .inl (fun _ => 0)),
  .inl (0, 5, .inl (fun _ => 0)),
  .inl (0, 24300, .inl (fun _ => 0)),
  .inl (0, 24300, .inl (fun _ => 0)),
  .inl (0, 24300, .inl (fun _ => 0)),
  .inl (0, 24300, .inl (fun _ => 0)),
  .inl (3, 100, .inl (fun _ => 0)),
  .inr (7, [.int 200, .int 0, .int 0, .int 0, .int 0, .int 0, .long 0, .ref n, .ref (n + 45), .ref (n + 46), .int 0, .ref n]),
  .inl (10, 3, .inr (.inr (va_up (va_up (va_up (fun _ => none) 0 (some 31)) 1 (some 32)) 2 (some 33)))),
  .inl (10, 5, .inr (.inr (va_up (va_up (va_up (va_up (va_up (fun _ => none) 0 (some 34)) 1 (some 35)) 2 (some 36)) 3 (some 37)) 4 (some 38)))),
  .inl (7, 2, .inr (.inr (fun _ => none))),
  .inl (8, 2, .inr (.inr (fun _ => none))),
  .inl (9, 2, .inr (.inr (fun _ => none))),
  .inr (8, [.int 0, .ref (n + 51), .int 0, .int 0, .int 0, .int 0, .int 0, .int 0, .int 0, .int 0, .int 0, .int 0, .long 0, .int 0, .ref (n + 52), .ref (n + 53), .ref (n + 54), .ref (n + 55), .ref (n + 56), .ref (n + 57), .ref (n + 58), .ref (n + 59), .int 0, .int 0, .ref (n + 60), .ref (n + 61), .int 0, .ref (n + 62), .ref (n + 63), .ref (n + 64), .ref (n + 65), .ref (n + 66), .int 0, .int 0, .ref (n + 67), .ref (n + 68), .ref (n + 69), .int 0, .int 0, .ref (n + 70), .ref (n + 71), .ref (n + 72), .int 0, .ref (n + 73), .ref (n + 74), .int 0, .int 0, .int 0, .ref (n + 75), .int 0, .ref (n + 76), .ref (n + 77), .ref (n + 78), .ref (n + 79), .ref (n + 80), .int 0, .int 0, .int 0, .ref (n + 81), .ref (n + 82), .int 0, .int 0, .int 0, .int 0]),
  .inl (0, 940, .inl (fun _ => 0)),
  .inl (0, 704, .inl (fun _ => 0)),
  .inl (0, 330, .inl (fun _ => 0)),
  .inl (0, 120, .inl (fun _ => 0)),
  .inl (0, 1408, .inl (fun _ => 0)),
  .inl (1, 10, .inr (.inl (fun _ => 0))),
  .inl (1, 10, .inr (.inl (fun _ => 0))),
  .inl (1, 20, .inr (.inl (fun _ => 0))),
  .inl (3, 2, .inl (fun _ => 0)),
  .inl (0, 4, .inl (fun _ => 0)),
  .inl (0, 4, .inl (fun _ => 0)),
  .inl (1, 40, .inr (.inl (fun _ => 0))),
  .inl (1, 40, .inr (.inl (fun _ => 0))),
  .inl (0, 10, .inl (fun _ => 0)),
  .inl (0, 10, .inl (fun _ => 0)),
  .inl (0, 10, .inl (fun _ => 0)),
  .inl (0, 10, .inl (fun _ => 0)),
  .inl (0, 10, .inl (fun _ => 0)),
  .inl (0, 10, .inl (fun _ => 0)),
  .inl (0, 1024, .inl (fun _ => 0)),
  .inl (0, 1024, .inl (fun _ => 0)),
  .inl (0, 10, .inl (fun _ => 0)),
  .inl (0, 10, .inl (fun _ => 0)),
  .inl (0, 100, .inl (fun _ => 0)),
  .inl (0, 5, .inl (va_up (va_up (va_up (va_up (va_up (fun _ => 0) 0 (-2)) 1 (-2)) 2 (-2)) 3 (-2)) 4 (-2))),
  .inl (0, 24300, .inl (fun _ => 0)),
  .inl (0, 24300, .inl (fun _ => 0)),
  .inl (0, 24300, .inl (fun _ => 0)),
  .inl (0, 24300, .inl (fun _ => 0)),
  .inl (0, 24300, .inl (fun _ => 0)),
  .inl (3, 100, .inl (fun _ => 0)),
  .inl (0, 240, .inl (fun _ => 0)),
  .inl (1, 1, .inr (.inl (fun _ => 0)))]
set_option maxHeartbeats 40000000 in
theorem PL_runs (n : Nat) : PL.1 (h00 n) = some ((n, n + 50, n + 83), hL n (cells0 n) 229478) := by
  rw [h00_hL]
  unfold PL M_X1_init M_X2_init M_J1_init M_J0_init_2 M_X3_init M_X4_init M_X5_init M_X7_init M_X8_init M_X9_init M_X6_init M_X10_init
  simp only [Mo.bind_assoc, Mo.pure_bind]
  rw [hL_nw0]
  rw [hL_nwI 1 rfl (by decide)]; dsimp only [List.set, List.cons_append, List.nil_append]
  rw [hL_put0 rfl (by decide) (Nat.le_of_ble_eq_true rfl)]; dsimp only [List.set, List.cons_append, List.nil_append]
  rw [hL_nw 2 rfl]; dsimp only [List.set, List.cons_append, List.nil_append]
  rw [hL_put 2 rfl (by decide) (Nat.le_of_ble_eq_true rfl)]; dsimp only [List.set, List.cons_append, List.nil_append]
  rw [hL_put 2 rfl (by decide) (Nat.le_of_ble_eq_true rfl)]; dsimp only [List.set, List.cons_append, List.nil_append]
  rw [hL_put 2 rfl (by decide) (Nat.le_of_ble_eq_true rfl)]; dsimp only [List.set, List.cons_append, List.nil_append]
  rw [hL_put 2 rfl (by decide) (Nat.le_of_ble_eq_true rfl)]; dsimp only [List.set, List.cons_append, List.nil_append]
  rw [hL_put0 rfl (by decide) (Nat.le_of_ble_eq_true rfl)]; dsimp only [List.set, List.cons_append, List.nil_append]
  rw [hL_nwR 3 rfl (by decide)]; dsimp only [List.set, List.cons_append, List.nil_append]
  rw [hL_astS 3 rfl rfl (by decide)]; dsimp only [List.set, List.cons_append, List.nil_append]
  rw [hL_astS 3 rfl rfl (by decide)]; dsimp only [List.set, List.cons_append, List.nil_append]
  rw [hL_astS 3 rfl rfl (by decide)]; dsimp only [List.set, List.cons_append, List.nil_append]
  rw [hL_astS 3 rfl rfl (by decide)]; dsimp only [List.set, List.cons_append, List.nil_append]
  rw [hL_astS 3 rfl rfl (by decide)]; dsimp only [List.set, List.cons_append, List.nil_append]
  rw [hL_astS 3 rfl rfl (by decide)]; dsimp only [List.set, List.cons_append, List.nil_append]
  rw [hL_astS 3 rfl rfl (by decide)]; dsimp only [List.set, List.cons_append, List.nil_append]
  rw [hL_astS 3 rfl rfl (by decide)]; dsimp only [List.set, List.cons_append, List.nil_append]
  rw [hL_astS 3 rfl rfl (by decide)]; dsimp only [List.set, List.cons_append, List.nil_append]
  rw [hL_astS 3 rfl rfl (by decide)]; dsimp only [List.set, List.cons_append, List.nil_append]
  rw [hL_astS 3 rfl rfl (by decide)]; dsimp only [List.set, List.cons_append, List.nil_append]
  rw [hL_astS 3 rfl rfl (by decide)]; dsimp only [List.set, List.cons_append, List.nil_append]
  rw [hL_astS 3 rfl rfl (by decide)]; dsimp only [List.set, List.cons_append, List.nil_append]
  rw [hL_astS 3 rfl rfl (by decide)]; dsimp only [List.set, List.cons_append, List.nil_append]
  rw [hL_astS 3 rfl rfl (by decide)]; dsimp only [List.set, List.cons_append, List.nil_append]
  rw [hL_astS 3 rfl rfl (by decide)]; dsimp only [List.set, List.cons_append, List.nil_append]
  rw [hL_astS 3 rfl rfl (by decide)]; dsimp only [List.set, List.cons_append, List.nil_append]
  rw [hL_astS 3 rfl rfl (by decide)]; dsimp only [List.set, List.cons_append, List.nil_append]
  rw [hL_astS 3 rfl rfl (by decide)]; dsimp only [List.set, List.cons_append, List.nil_append]
  rw [hL_astS 3 rfl rfl (by decide)]; dsimp only [List.set, List.cons_append, List.nil_append]
  rw [hL_astS 3 rfl rfl (by decide)]; dsimp only [List.set, List.cons_append, List.nil_append]
  rw [hL_astS 3 rfl rfl (by decide)]; dsimp only [List.set, List.cons_append, List.nil_append]
  rw [hL_astS 3 rfl rfl (by decide)]; dsimp only [List.set, List.cons_append, List.nil_append]
  rw [hL_astS 3 rfl rfl (by decide)]; dsimp only [List.set, List.cons_append, List.nil_append]
  rw [hL_astS 3 rfl rfl (by decide)]; dsimp only [List.set, List.cons_append, List.nil_append]
  rw [hL_astS 3 rfl rfl (by decide)]; dsimp only [List.set, List.cons_append, List.nil_append]
  rw [hL_put0 rfl (by decide) (Nat.le_of_ble_eq_true rfl)]; dsimp only [List.set, List.cons_append, List.nil_append]
  rw [hL_nwR 4 rfl (by decide)]; dsimp only [List.set, List.cons_append, List.nil_append]
  rw [hL_astS 4 rfl rfl (by decide)]; dsimp only [List.set, List.cons_append, List.nil_append]
  rw [hL_astS 4 rfl rfl (by decide)]; dsimp only [List.set, List.cons_append, List.nil_append]
  rw [hL_astS 4 rfl rfl (by decide)]; dsimp only [List.set, List.cons_append, List.nil_append]
  rw [hL_astS 4 rfl rfl (by decide)]; dsimp only [List.set, List.cons_append, List.nil_append]
  rw [hL_put0 rfl (by decide) (Nat.le_of_ble_eq_true rfl)]; dsimp only [List.set, List.cons_append, List.nil_append]
  rw [hL_nwR 5 rfl (by decide)]; dsimp only [List.set, List.cons_append, List.nil_append]
  rw [hL_astS 5 rfl rfl (by decide)]; dsimp only [List.set, List.cons_append, List.nil_append]
  rw [hL_astS 5 rfl rfl (by decide)]; dsimp only [List.set, List.cons_append, List.nil_append]
  rw [hL_astS 5 rfl rfl (by decide)]; dsimp only [List.set, List.cons_append, List.nil_append]
  rw [hL_astS 5 rfl rfl (by decide)]; dsimp only [List.set, List.cons_append, List.nil_append]
  rw [hL_put0 rfl (by decide) (Nat.le_of_ble_eq_true rfl)]; dsimp only [List.set, List.cons_append, List.nil_append]
  rw [hL_nwR 6 rfl (by decide)]; dsimp only [List.set, List.cons_append, List.nil_append]
  rw [hL_astS 6 rfl rfl (by decide)]; dsimp only [List.set, List.cons_append, List.nil_append]
  rw [hL_astS 6 rfl rfl (by decide)]; dsimp only [List.set, List.cons_append, List.nil_append]
  rw [hL_astS 6 rfl rfl (by decide)]; dsimp only [List.set, List.cons_append, List.nil_append]
  rw [hL_astS 6 rfl rfl (by decide)]; dsimp only [List.set, List.cons_append, List.nil_append]
  rw [hL_put0 rfl (by decide) (Nat.le_of_ble_eq_true rfl)]; dsimp only [List.set, List.cons_append, List.nil_append]
  rw [hL_nw 7 rfl]; dsimp only [List.set, List.cons_append, List.nil_append]
  rw [hL_nw 8 rfl]; dsimp only [List.set, List.cons_append, List.nil_append]
  rw [hL_nwI 9 rfl (by decide)]; dsimp only [List.set, List.cons_append, List.nil_append]
  rw [hL_put 8 rfl (by decide) (Nat.le_of_ble_eq_true rfl)]; dsimp only [List.set, List.cons_append, List.nil_append]
  rw [hL_nwI 10 rfl (by decide)]; dsimp only [List.set, List.cons_append, List.nil_append]
  rw [hL_put 8 rfl (by decide) (Nat.le_of_ble_eq_true rfl)]; dsimp only [List.set, List.cons_append, List.nil_append]
  rw [hL_nwR 11 rfl (by decide)]; dsimp only [List.set, List.cons_append, List.nil_append]
  rw [hL_put 8 rfl (by decide) (Nat.le_of_ble_eq_true rfl)]; dsimp only [List.set, List.cons_append, List.nil_append]
  rw [hL_nwI 12 rfl (by decide)]; dsimp only [List.set, List.cons_append, List.nil_append]
  rw [hL_put 8 rfl (by decide) (Nat.le_of_ble_eq_true rfl)]; dsimp only [List.set, List.cons_append, List.nil_append]
  rw [hL_put 8 rfl (by decide) (Nat.le_of_ble_eq_true rfl)]; dsimp only [List.set, List.cons_append, List.nil_append]
  rw [hL_loop 8 9 (by decide) rfl rfl rfl]; dsimp only [List.set, List.cons_append, List.nil_append]
  rw [hL_put 7 rfl (by decide) (Nat.le_of_ble_eq_true rfl)]; dsimp only [List.set, List.cons_append, List.nil_append]
  rw [hL_nwI 13 rfl (by decide)]; dsimp only [List.set, List.cons_append, List.nil_append]
  rw [hL_put 7 rfl (by decide) (Nat.le_of_ble_eq_true rfl)]; dsimp only [List.set, List.cons_append, List.nil_append]
  rw [hL_nwI 14 rfl (by decide)]; dsimp only [List.set, List.cons_append, List.nil_append]
  rw [hL_put 7 rfl (by decide) (Nat.le_of_ble_eq_true rfl)]; dsimp only [List.set, List.cons_append, List.nil_append]
  rw [hL_put 7 rfl (by decide) (Nat.le_of_ble_eq_true rfl)]; dsimp only [List.set, List.cons_append, List.nil_append]
  rw [hL_put0 rfl (by decide) (Nat.le_of_ble_eq_true rfl)]; dsimp only [List.set, List.cons_append, List.nil_append]
  rw [hL_nw 15 rfl]; dsimp only [List.set, List.cons_append, List.nil_append]
  rw [hL_nw 16 rfl]; dsimp only [List.set, List.cons_append, List.nil_append]
  rw [hL_nwI 17 rfl (by decide)]; dsimp only [List.set, List.cons_append, List.nil_append]
  rw [hL_put 16 rfl (by decide) (Nat.le_of_ble_eq_true rfl)]; dsimp only [List.set, List.cons_append, List.nil_append]
  rw [hL_nwI 18 rfl (by decide)]; dsimp only [List.set, List.cons_append, List.nil_append]
  rw [hL_put 16 rfl (by decide) (Nat.le_of_ble_eq_true rfl)]; dsimp only [List.set, List.cons_append, List.nil_append]
  rw [hL_nwR 19 rfl (by decide)]; dsimp only [List.set, List.cons_append, List.nil_append]
  rw [hL_put 16 rfl (by decide) (Nat.le_of_ble_eq_true rfl)]; dsimp only [List.set, List.cons_append, List.nil_append]
  rw [hL_nwI 20 rfl (by decide)]; dsimp only [List.set, List.cons_append, List.nil_append]
  rw [hL_put 16 rfl (by decide) (Nat.le_of_ble_eq_true rfl)]; dsimp only [List.set, List.cons_append, List.nil_append]
  rw [hL_put 16 rfl (by decide) (Nat.le_of_ble_eq_true rfl)]; dsimp only [List.set, List.cons_append, List.nil_append]
  rw [hL_loop 16 17 (by decide) rfl rfl rfl]; dsimp only [List.set, List.cons_append, List.nil_append]
  rw [hL_put 15 rfl (by decide) (Nat.le_of_ble_eq_true rfl)]; dsimp only [List.set, List.cons_append, List.nil_append]
  rw [hL_nwI 21 rfl (by decide)]; dsimp only [List.set, List.cons_append, List.nil_append]
  rw [hL_put 15 rfl (by decide) (Nat.le_of_ble_eq_true rfl)]; dsimp only [List.set, List.cons_append, List.nil_append]
  rw [hL_nwI 22 rfl (by decide)]; dsimp only [List.set, List.cons_append, List.nil_append]
  rw [hL_put 15 rfl (by decide) (Nat.le_of_ble_eq_true rfl)]; dsimp only [List.set, List.cons_append, List.nil_append]
  rw [hL_put 15 rfl (by decide) (Nat.le_of_ble_eq_true rfl)]; dsimp only [List.set, List.cons_append, List.nil_append]
  rw [hL_put0 rfl (by decide) (Nat.le_of_ble_eq_true rfl)]; dsimp only [List.set, List.cons_append, List.nil_append]
  rw [hL_nw 23 rfl]; dsimp only [List.set, List.cons_append, List.nil_append]
  rw [hL_nwR 24 rfl (by decide)]; dsimp only [List.set, List.cons_append, List.nil_append]
  rw [hL_put 23 rfl (by decide) (Nat.le_of_ble_eq_true rfl)]; dsimp only [List.set, List.cons_append, List.nil_append]
  rw [hL_put0 rfl (by decide) (Nat.le_of_ble_eq_true rfl)]; dsimp only [List.set, List.cons_append, List.nil_append]
  rw [hL_nw 25 rfl]; dsimp only [List.set, List.cons_append, List.nil_append]
  rw [hL_put 25 rfl (by decide) (Nat.le_of_ble_eq_true rfl)]; dsimp only [List.set, List.cons_append, List.nil_append]
  rw [hL_put 25 rfl (by decide) (Nat.le_of_ble_eq_true rfl)]; dsimp only [List.set, List.cons_append, List.nil_append]
  rw [hL_put 25 rfl (by decide) (Nat.le_of_ble_eq_true rfl)]; dsimp only [List.set, List.cons_append, List.nil_append]
  rw [hL_put0 rfl (by decide) (Nat.le_of_ble_eq_true rfl)]; dsimp only [List.set, List.cons_append, List.nil_append]
  rw [hL_nw 26 rfl]; dsimp only [List.set, List.cons_append, List.nil_append]
  rw [hL_put 26 rfl (by decide) (Nat.le_of_ble_eq_true rfl)]; dsimp only [List.set, List.cons_append, List.nil_append]
  rw [hL_put 26 rfl (by decide) (Nat.le_of_ble_eq_true rfl)]; dsimp only [List.set, List.cons_append, List.nil_append]
  rw [hL_put 26 rfl (by decide) (Nat.le_of_ble_eq_true rfl)]; dsimp only [List.set, List.cons_append, List.nil_append]
  rw [hL_put0 rfl (by decide) (Nat.le_of_ble_eq_true rfl)]; dsimp only [List.set, List.cons_append, List.nil_append]
  rw [hL_nwI 27 rfl (by decide)]; dsimp only [List.set, List.cons_append, List.nil_append]
  rw [hL_put0 rfl (by decide) (Nat.le_of_ble_eq_true rfl)]; dsimp only [List.set, List.cons_append, List.nil_append]
  rw [hL_nwI 28 rfl (by decide)]; dsimp only [List.set, List.cons_append, List.nil_append]
  rw [hL_put0 rfl (by decide) (Nat.le_of_ble_eq_true rfl)]; dsimp only [List.set, List.cons_append, List.nil_append]
  rw [hL_nwI 29 rfl (by decide)]; dsimp only [List.set, List.cons_append, List.nil_append]
  rw [hL_put0 rfl (by decide) (Nat.le_of_ble_eq_true rfl)]; dsimp only [List.set, List.cons_append, List.nil_append]
  rw [hL_nwI 30 rfl (by decide)]; dsimp only [List.set, List.cons_append, List.nil_append]
  rw [hL_put0 rfl (by decide) (Nat.le_of_ble_eq_true rfl)]; dsimp only [List.set, List.cons_append, List.nil_append]
  rw [hL_nwI 31 rfl (by decide)]; dsimp only [List.set, List.cons_append, List.nil_append]
  rw [hL_put0 rfl (by decide) (Nat.le_of_ble_eq_true rfl)]; dsimp only [List.set, List.cons_append, List.nil_append]
  rw [hL_nwI 32 rfl (by decide)]; dsimp only [List.set, List.cons_append, List.nil_append]
  rw [hL_put0 rfl (by decide) (Nat.le_of_ble_eq_true rfl)]; dsimp only [List.set, List.cons_append, List.nil_append]
  rw [hL_nwI 33 rfl (by decide)]; dsimp only [List.set, List.cons_append, List.nil_append]
  rw [hL_put0 rfl (by decide) (Nat.le_of_ble_eq_true rfl)]; dsimp only [List.set, List.cons_append, List.nil_append]
  rw [hL_nwI 34 rfl (by decide)]; dsimp only [List.set, List.cons_append, List.nil_append]
  rw [hL_put0 rfl (by decide) (Nat.le_of_ble_eq_true rfl)]; dsimp only [List.set, List.cons_append, List.nil_append]
  rw [hL_nwI 35 rfl (by decide)]; dsimp only [List.set, List.cons_append, List.nil_append]
  rw [hL_put0 rfl (by decide) (Nat.le_of_ble_eq_true rfl)]; dsimp only [List.set, List.cons_append, List.nil_append]
  rw [hL_nwI 36 rfl (by decide)]; dsimp only [List.set, List.cons_append, List.nil_append]
  rw [hL_put0 rfl (by decide) (Nat.le_of_ble_eq_true rfl)]; dsimp only [List.set, List.cons_append, List.nil_append]
  rw [hL_nwI 37 rfl (by decide)]; dsimp only [List.set, List.cons_append, List.nil_append]
  rw [hL_put0 rfl (by decide) (Nat.le_of_ble_eq_true rfl)]; dsimp only [List.set, List.cons_append, List.nil_append]
  rw [hL_nwI 38 rfl (by decide)]; dsimp only [List.set, List.cons_append, List.nil_append]
  rw [hL_put0 rfl (by decide) (Nat.le_of_ble_eq_true rfl)]; dsimp only [List.set, List.cons_append, List.nil_append]
  rw [hL_nwI 39 rfl (by decide)]; dsimp only [List.set, List.cons_append, List.nil_append]
  rw [hL_put0 rfl (by decide) (Nat.le_of_ble_eq_true rfl)]; dsimp only [List.set, List.cons_append, List.nil_append]
  rw [hL_nwI 40 rfl (by decide)]; dsimp only [List.set, List.cons_append, List.nil_append]
  rw [hL_put0 rfl (by decide) (Nat.le_of_ble_eq_true rfl)]; dsimp only [List.set, List.cons_append, List.nil_append]
  rw [hL_nwI 41 rfl (by decide)]; dsimp only [List.set, List.cons_append, List.nil_append]
  rw [hL_put0 rfl (by decide) (Nat.le_of_ble_eq_true rfl)]; dsimp only [List.set, List.cons_append, List.nil_append]
  rw [hL_nwI 42 rfl (by decide)]; dsimp only [List.set, List.cons_append, List.nil_append]
  rw [hL_put0 rfl (by decide) (Nat.le_of_ble_eq_true rfl)]; dsimp only [List.set, List.cons_append, List.nil_append]
  rw [hL_nwI 43 rfl (by decide)]; dsimp only [List.set, List.cons_append, List.nil_append]
  rw [hL_put0 rfl (by decide) (Nat.le_of_ble_eq_true rfl)]; dsimp only [List.set, List.cons_append, List.nil_append]
  rw [hL_nw 44 rfl]; dsimp only [List.set, List.cons_append, List.nil_append]
  rw [hL_put 44 rfl (by decide) (Nat.le_of_ble_eq_true rfl)]; dsimp only [List.set, List.cons_append, List.nil_append]
  rw [hL_put 44 rfl (by decide) (Nat.le_of_ble_eq_true rfl)]; dsimp only [List.set, List.cons_append, List.nil_append]
  rw [hL_put 44 rfl (by decide) (Nat.le_of_ble_eq_true rfl)]; dsimp only [List.set, List.cons_append, List.nil_append]
  rw [hL_nwR 45 rfl (by decide)]; dsimp only [List.set, List.cons_append, List.nil_append]
  rw [hL_astS 45 rfl rfl (by decide)]; dsimp only [List.set, List.cons_append, List.nil_append]
  rw [hL_astS 45 rfl rfl (by decide)]; dsimp only [List.set, List.cons_append, List.nil_append]
  rw [hL_astS 45 rfl rfl (by decide)]; dsimp only [List.set, List.cons_append, List.nil_append]
  rw [hL_put 44 rfl (by decide) (Nat.le_of_ble_eq_true rfl)]; dsimp only [List.set, List.cons_append, List.nil_append]
  rw [hL_nwR 46 rfl (by decide)]; dsimp only [List.set, List.cons_append, List.nil_append]
  rw [hL_astS 46 rfl rfl (by decide)]; dsimp only [List.set, List.cons_append, List.nil_append]
  rw [hL_astS 46 rfl rfl (by decide)]; dsimp only [List.set, List.cons_append, List.nil_append]
  rw [hL_astS 46 rfl rfl (by decide)]; dsimp only [List.set, List.cons_append, List.nil_append]
  rw [hL_astS 46 rfl rfl (by decide)]; dsimp only [List.set, List.cons_append, List.nil_append]
  rw [hL_astS 46 rfl rfl (by decide)]; dsimp only [List.set, List.cons_append, List.nil_append]
  rw [hL_put 44 rfl (by decide) (Nat.le_of_ble_eq_true rfl)]; dsimp only [List.set, List.cons_append, List.nil_append]
  rw [hL_put0 rfl (by decide) (Nat.le_of_ble_eq_true rfl)]; dsimp only [List.set, List.cons_append, List.nil_append]
  rw [hL_nwR 47 rfl (by decide)]; dsimp only [List.set, List.cons_append, List.nil_append]
  rw [hL_put0 rfl (by decide) (Nat.le_of_ble_eq_true rfl)]; dsimp only [List.set, List.cons_append, List.nil_append]
  rw [hL_nwR 48 rfl (by decide)]; dsimp only [List.set, List.cons_append, List.nil_append]
  rw [hL_put0 rfl (by decide) (Nat.le_of_ble_eq_true rfl)]; dsimp only [List.set, List.cons_append, List.nil_append]
  rw [hL_nwR 49 rfl (by decide)]; dsimp only [List.set, List.cons_append, List.nil_append]
  rw [hL_put0 rfl (by decide) (Nat.le_of_ble_eq_true rfl)]; dsimp only [List.set, List.cons_append, List.nil_append]
  rw [hL_nw 50 rfl]; dsimp only [List.set, List.cons_append, List.nil_append]
  rw [hL_nwI 51 rfl (by decide)]; dsimp only [List.set, List.cons_append, List.nil_append]
  rw [hL_put 50 rfl (by decide) (Nat.le_of_ble_eq_true rfl)]; dsimp only [List.set, List.cons_append, List.nil_append]
  rw [hL_nwI 52 rfl (by decide)]; dsimp only [List.set, List.cons_append, List.nil_append]
  rw [hL_put 50 rfl (by decide) (Nat.le_of_ble_eq_true rfl)]; dsimp only [List.set, List.cons_append, List.nil_append]
  rw [hL_nwI 53 rfl (by decide)]; dsimp only [List.set, List.cons_append, List.nil_append]
  rw [hL_put 50 rfl (by decide) (Nat.le_of_ble_eq_true rfl)]; dsimp only [List.set, List.cons_append, List.nil_append]
  rw [hL_nwI 54 rfl (by decide)]; dsimp only [List.set, List.cons_append, List.nil_append]
  rw [hL_put 50 rfl (by decide) (Nat.le_of_ble_eq_true rfl)]; dsimp only [List.set, List.cons_append, List.nil_append]
  rw [hL_nwI 55 rfl (by decide)]; dsimp only [List.set, List.cons_append, List.nil_append]
  rw [hL_put 50 rfl (by decide) (Nat.le_of_ble_eq_true rfl)]; dsimp only [List.set, List.cons_append, List.nil_append]
  rw [hL_nwL 56 rfl (by decide)]; dsimp only [List.set, List.cons_append, List.nil_append]
  rw [hL_put 50 rfl (by decide) (Nat.le_of_ble_eq_true rfl)]; dsimp only [List.set, List.cons_append, List.nil_append]
  rw [hL_nwL 57 rfl (by decide)]; dsimp only [List.set, List.cons_append, List.nil_append]
  rw [hL_put 50 rfl (by decide) (Nat.le_of_ble_eq_true rfl)]; dsimp only [List.set, List.cons_append, List.nil_append]
  rw [hL_nwL 58 rfl (by decide)]; dsimp only [List.set, List.cons_append, List.nil_append]
  rw [hL_put 50 rfl (by decide) (Nat.le_of_ble_eq_true rfl)]; dsimp only [List.set, List.cons_append, List.nil_append]
  rw [hL_nwI 59 rfl (by decide)]; dsimp only [List.set, List.cons_append, List.nil_append]
  rw [hL_put 50 rfl (by decide) (Nat.le_of_ble_eq_true rfl)]; dsimp only [List.set, List.cons_append, List.nil_append]
  rw [hL_nwI 60 rfl (by decide)]; dsimp only [List.set, List.cons_append, List.nil_append]
  rw [hL_put 50 rfl (by decide) (Nat.le_of_ble_eq_true rfl)]; dsimp only [List.set, List.cons_append, List.nil_append]
  rw [hL_nwI 61 rfl (by decide)]; dsimp only [List.set, List.cons_append, List.nil_append]
  rw [hL_put 50 rfl (by decide) (Nat.le_of_ble_eq_true rfl)]; dsimp only [List.set, List.cons_append, List.nil_append]
  rw [hL_nwL 62 rfl (by decide)]; dsimp only [List.set, List.cons_append, List.nil_append]
  rw [hL_put 50 rfl (by decide) (Nat.le_of_ble_eq_true rfl)]; dsimp only [List.set, List.cons_append, List.nil_append]
  rw [hL_nwL 63 rfl (by decide)]; dsimp only [List.set, List.cons_append, List.nil_append]
  rw [hL_put 50 rfl (by decide) (Nat.le_of_ble_eq_true rfl)]; dsimp only [List.set, List.cons_append, List.nil_append]
  rw [hL_nwI 64 rfl (by decide)]; dsimp only [List.set, List.cons_append, List.nil_append]
  rw [hL_put 50 rfl (by decide) (Nat.le_of_ble_eq_true rfl)]; dsimp only [List.set, List.cons_append, List.nil_append]
  rw [hL_nwI 65 rfl (by decide)]; dsimp only [List.set, List.cons_append, List.nil_append]
  rw [hL_put 50 rfl (by decide) (Nat.le_of_ble_eq_true rfl)]; dsimp only [List.set, List.cons_append, List.nil_append]
  rw [hL_nwI 66 rfl (by decide)]; dsimp only [List.set, List.cons_append, List.nil_append]
  rw [hL_put 50 rfl (by decide) (Nat.le_of_ble_eq_true rfl)]; dsimp only [List.set, List.cons_append, List.nil_append]
  rw [hL_nwI 67 rfl (by decide)]; dsimp only [List.set, List.cons_append, List.nil_append]
  rw [hL_put 50 rfl (by decide) (Nat.le_of_ble_eq_true rfl)]; dsimp only [List.set, List.cons_append, List.nil_append]
  rw [hL_nwI 68 rfl (by decide)]; dsimp only [List.set, List.cons_append, List.nil_append]
  rw [hL_put 50 rfl (by decide) (Nat.le_of_ble_eq_true rfl)]; dsimp only [List.set, List.cons_append, List.nil_append]
  rw [hL_nwI 69 rfl (by decide)]; dsimp only [List.set, List.cons_append, List.nil_append]
  rw [hL_put 50 rfl (by decide) (Nat.le_of_ble_eq_true rfl)]; dsimp only [List.set, List.cons_append, List.nil_append]
  rw [hL_nwI 70 rfl (by decide)]; dsimp only [List.set, List.cons_append, List.nil_append]
  rw [hL_put 50 rfl (by decide) (Nat.le_of_ble_eq_true rfl)]; dsimp only [List.set, List.cons_append, List.nil_append]
  rw [hL_nwI 71 rfl (by decide)]; dsimp only [List.set, List.cons_append, List.nil_append]
  rw [hL_put 50 rfl (by decide) (Nat.le_of_ble_eq_true rfl)]; dsimp only [List.set, List.cons_append, List.nil_append]
  rw [hL_nwI 72 rfl (by decide)]; dsimp only [List.set, List.cons_append, List.nil_append]
  rw [hL_put 50 rfl (by decide) (Nat.le_of_ble_eq_true rfl)]; dsimp only [List.set, List.cons_append, List.nil_append]
  rw [hL_nwI 73 rfl (by decide)]; dsimp only [List.set, List.cons_append, List.nil_append]
  rw [hL_put 50 rfl (by decide) (Nat.le_of_ble_eq_true rfl)]; dsimp only [List.set, List.cons_append, List.nil_append]
  rw [hL_nwI 74 rfl (by decide)]; dsimp only [List.set, List.cons_append, List.nil_append]
  rw [hL_put 50 rfl (by decide) (Nat.le_of_ble_eq_true rfl)]; dsimp only [List.set, List.cons_append, List.nil_append]
  rw [hL_nwI 75 rfl (by decide)]; dsimp only [List.set, List.cons_append, List.nil_append]
  rw [hL_astI 75 rfl rfl]; dsimp only [List.set, List.cons_append, List.nil_append]
  rw [hL_astI 75 rfl rfl]; dsimp only [List.set, List.cons_append, List.nil_append]
  rw [hL_astI 75 rfl rfl]; dsimp only [List.set, List.cons_append, List.nil_append]
  rw [hL_astI 75 rfl rfl]; dsimp only [List.set, List.cons_append, List.nil_append]
  rw [hL_astI 75 rfl rfl]; dsimp only [List.set, List.cons_append, List.nil_append]
  rw [hL_put 50 rfl (by decide) (Nat.le_of_ble_eq_true rfl)]; dsimp only [List.set, List.cons_append, List.nil_append]
  rw [hL_nwI 76 rfl (by decide)]; dsimp only [List.set, List.cons_append, List.nil_append]
  rw [hL_put 50 rfl (by decide) (Nat.le_of_ble_eq_true rfl)]; dsimp only [List.set, List.cons_append, List.nil_append]
  rw [hL_nwI 77 rfl (by decide)]; dsimp only [List.set, List.cons_append, List.nil_append]
  rw [hL_put 50 rfl (by decide) (Nat.le_of_ble_eq_true rfl)]; dsimp only [List.set, List.cons_append, List.nil_append]
  rw [hL_nwI 78 rfl (by decide)]; dsimp only [List.set, List.cons_append, List.nil_append]
  rw [hL_put 50 rfl (by decide) (Nat.le_of_ble_eq_true rfl)]; dsimp only [List.set, List.cons_append, List.nil_append]
  rw [hL_nwI 79 rfl (by decide)]; dsimp only [List.set, List.cons_append, List.nil_append]
  rw [hL_put 50 rfl (by decide) (Nat.le_of_ble_eq_true rfl)]; dsimp only [List.set, List.cons_append, List.nil_append]
  rw [hL_nwI 80 rfl (by decide)]; dsimp only [List.set, List.cons_append, List.nil_append]
  rw [hL_put 50 rfl (by decide) (Nat.le_of_ble_eq_true rfl)]; dsimp only [List.set, List.cons_append, List.nil_append]
  rw [hL_nwI 81 rfl (by decide)]; dsimp only [List.set, List.cons_append, List.nil_append]
  rw [hL_put 50 rfl (by decide) (Nat.le_of_ble_eq_true rfl)]; dsimp only [List.set, List.cons_append, List.nil_append]
  rw [hL_nwI 82 rfl (by decide)]; dsimp only [List.set, List.cons_append, List.nil_append]
  rw [hL_put 50 rfl (by decide) (Nat.le_of_ble_eq_true rfl)]; dsimp only [List.set, List.cons_append, List.nil_append]
  rw [hL_nwL 83 rfl (by decide)]; dsimp only [List.set, List.cons_append, List.nil_append]
  rfl
