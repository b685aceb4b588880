set_option maxRecDepth 100000
/-- what is so now has changed, and nothing else that is kept -/
theorem RelC.now {n : Nat} {F : Fz} {g : gH} {xs xs' : XS} {ms ms' : MS} (R : RelC n F g xs ms) (i1 : ∀ k ∈ [1, 14, 24, 25, 31, 33, 39], xs'.1 k = xs.1 k) (a1 : ∀ k ∈ [0, 22, 23, 27, 32, 37], xs'.2.2.1 k = xs.2.2.1 k) (w1 : ∀ j ∈ [5, 6, 7], xs'.2.2.2.1 j 0 = xs.2.2.2.1 j 0) (n1 : xs'.2.2.2.2.2 = xs.2.2.2.2.2)
    (m1 : ∀ k ∈ [2, 10, 37, 38, 42, 57], ms'.1 k = ms.1 k) (m22 : ms'.1 22 = 0 ∨ ms'.1 22 = 1) (m2 : ∀ k ∈ [1, 17, 21, 35, 36, 41, 48, 54], ms'.2.2.1 k = ms.2.2.1 k) (m3 : ms'.2.2.2 20 = ms.2.2.2 20) (hmin : xs'.2.2.2.1 0 4 = ms'.1 23)
    (hnow : ∃ ho dy, xs'.2.1 200 = some ho ∧ xs'.2.1 11 = some dy ∧ IsAll F ho (xs'.2.2.1 200) (xs'.2.2.1 201) (xs'.2.2.2.1 0 3) dy (xs'.2.1 42) (eRow ms') (ms'.2.2.2 18)) : RelC n F g xs' ms' := by
  obtain ⟨r1, r2, r3, r4, r5, r6, r7, r8, r9, r10, r11, r12, r13⟩ := R
  have hk : ∀ k, kRow ms' k = kRow ms k := fun k => by funext i; unfold kRow; rw [m2 17 (by decide)]
  refine ⟨?_, ?_, ?_, hmin, m22, hnow, ?_, ?_, ?_, ?_, ?_, ?_, ?_⟩
  · obtain ⟨s1, s2, s3, s4, s5, s6, s7, s8, s9, s10, s11⟩ := r1
    exact ⟨s1, s2, s3, s4, s5, (w1 5 (by decide)).trans s6, (w1 6 (by decide)).trans s7, (w1 7 (by decide)).trans s8, s9, by rw [n1]; exact s10, by rw [n1]; exact s11⟩
  · rw [i1 1 (by decide), a1 0 (by decide), m1 2 (by decide), m2 1 (by decide)]; exact r2
  · rw [i1 14 (by decide), m1 10 (by decide)]; exact r3
  · intro k hk2; rw [n1, hk, m3, m2 21 (by decide)]; exact r7 k hk2
  · rw [i1 24 (by decide), a1 22 (by decide), m1 38 (by decide), m2 35 (by decide)]; exact r8
  · rw [i1 25 (by decide), a1 23 (by decide), m1 37 (by decide), m2 36 (by decide)]; exact r9
  · rw [i1 31 (by decide), a1 27 (by decide), m1 42 (by decide), m2 41 (by decide)]; exact r10
  · rw [i1 39 (by decide), a1 37 (by decide), m1 57 (by decide), m2 54 (by decide)]; exact r11
  · rw [i1 39 (by decide), a1 37 (by decide)]; exact r12
  · rw [i1 33 (by decide), a1 32 (by decide), m2 48 (by decide)]; exact r13
theorem day_up {F : Fz} {a : Nat} {r r' : Row} (u : upH r r') (D : IsDay F a r) : IsDay F a r' := by
  obtain ⟨q, f, d1, d2, d3, d4, d5⟩ := D
  have n2 : rN r' 2 = rN r 2 := by unfold rN; rw [u 2 (fun e _ => by omega)]
  have n341 : rN r' 341 = rN r 341 := by unfold rN; rw [u 341 (fun e _ => by omega)]
  refine ⟨q, f, by rw [u 341 (fun e _ => by omega)]; exact d1, d2, by rw [n341, u 341 (fun e _ => by omega)]; exact d3, by rw [n341]; exact d4, fun i hi => ?_⟩
  rw [n341] at hi
  rw [n2, u (342 + 2 * i) (fun e _ => by omega), u (343 + 2 * i) (fun e _ => by omega)]
  exact d5 i hi
theorem cond_up {F : Fz} {r r' : Row} (u : upH r r') : ∀ (n a k : Nat), IsCond F r n a k → IsCond F r' n a k
  | 0, _, _, h => h
  | n + 1, a, k, h => by
    have n2 : rN r' 2 = rN r 2 := by unfold rN; rw [u 2 (fun e _ => by omega)]
    have e4 : r' (464 + 4 * k) = r (464 + 4 * k) := u _ (fun e _ => by omega)
    have e5 : r' (465 + 4 * k) = r (465 + 4 * k) := u _ (fun e _ => by omega)
    have e6 : r' (466 + 4 * k) = r (466 + 4 * k) := u _ (fun e _ => by omega)
    have e7 : r' (467 + 4 * k) = r (467 + 4 * k) := u _ (fun e _ => by omega)
    have n5 : rN r' (465 + 4 * k) = rN r (465 + 4 * k) := by unfold rN; rw [e5]
    have n6 : rN r' (466 + 4 * k) = rN r (466 + 4 * k) := by unfold rN; rw [e6]
    unfold IsCond at h ⊢
    rw [e4, e5, e6, e7, n5, n6, n2]
    rcases h with ⟨h1, b, h2, h3, h4⟩ | ⟨h1, b, c, h2, h3, h4, h5, h6⟩ | ⟨h1, b, c, h2, h3, h4, h5, h6⟩ | h | h | h | h | h
    · exact Or.inl ⟨h1, b, h2, h3, cond_up u n _ _ h4⟩
    · exact Or.inr (Or.inl ⟨h1, b, c, h2, h3, h4, cond_up u n _ _ h5, cond_up u n _ _ h6⟩)
    · exact Or.inr (Or.inr (Or.inl ⟨h1, b, c, h2, h3, h4, cond_up u n _ _ h5, cond_up u n _ _ h6⟩))
    · exact Or.inr (Or.inr (Or.inr (Or.inl h)))
    · exact Or.inr (Or.inr (Or.inr (Or.inr (Or.inl h))))
    · exact Or.inr (Or.inr (Or.inr (Or.inr (Or.inr (Or.inl h)))))
    · exact Or.inr (Or.inr (Or.inr (Or.inr (Or.inr (Or.inr (Or.inl h))))))
    · exact Or.inr (Or.inr (Or.inr (Or.inr (Or.inr (Or.inr (Or.inr h))))))
theorem sent_up {F : Fz} {s : Option Nat} {r r' : Row} (u : upH r r') (S : IsSent F s r) : IsSent F s r' := by
  have e2 : r' 462 = r 462 := u _ (fun e _ => by omega)
  have e3 : r' 463 = r 463 := u _ (fun e _ => by omega)
  have n3 : rN r' 463 = rN r 463 := by unfold rN; rw [e3]
  rcases S with ⟨h1, h2⟩ | ⟨a, h1, h2, h3, h4, h5⟩
  · exact Or.inl ⟨h1, by rw [e2]; exact h2⟩
  · exact Or.inr ⟨a, h1, by rw [e2]; exact h2, by rw [n3, e3]; exact h3, by rw [n3]; exact h4, by rw [n3]; exact cond_up u _ _ _ h5⟩
/-- a door that is shut lies in its doorway, however it hangs -/
theorem leaf0_iff (r : Row) (d h : Nat) (p : Int × Int) : p ∈ leafL r d h 0 ↔ p ∈ leafL r d 0 0 := by
  unfold leafL leafZ
  generalize rN r (113 + 10 * d) = len
  generalize (r (110 + 10 * d)).toInt = x
  generalize (r (111 + 10 * d)).toInt = y
  generalize (r (112 + 10 * d) == 1) = ac
  simp only [Nat.zero_mod, if_true, show ¬ ((0 : Nat) = 1) by decide, if_false, List.mem_map, List.mem_range]
  by_cases hp : h % 2 = 0
  · simp only [if_pos hp]
  · simp only [if_neg hp]
    constructor
    · rintro ⟨i, hi, e⟩
      refine ⟨len - 1 - i, by omega, ?_⟩
      rw [← e]
      cases ac <;> simp <;> omega
    · rintro ⟨i, hi, e⟩
      refine ⟨len - 1 - i, by omega, ?_⟩
      rw [← e]
      cases ac <;> simp <;> omega
theorem leafC0_iff (r : Row) (d h c : Nat) : c ∈ leafC r d h 0 ↔ c ∈ leafC r d 0 0 := by
  unfold leafC
  simp only [List.mem_map, List.mem_filter]
  constructor
  · rintro ⟨p, ⟨h1, h2⟩, e⟩; exact ⟨p, ⟨(leaf0_iff r d h p).mp h1, h2⟩, e⟩
  · rintro ⟨p, ⟨h1, h2⟩, e⟩; exact ⟨p, ⟨(leaf0_iff r d h p).mpr h1, h2⟩, e⟩
theorem okRow_up {r r' : Row} (u : upH r r') (hh : ∀ d, d < rN r 2 → r' (114 + 10 * d) = nI (rN r' (114 + 10 * d)) ∧ rN r' (114 + 10 * d) < 4) (ok : okRow r) : okRow r' := by
  have q : ∀ i, (∀ e, e < 10 → i ≠ 114 + 10 * e) → r' i = r i ∧ rN r' i = rN r i := fun i hi => ⟨u i hi, by unfold rN; rw [u i hi]⟩
  obtain ⟨o1, o2, o3, o4, o5, o6, o7, o8⟩ := ok
  obtain ⟨a0, b0⟩ := q 0 (fun e _ => by omega)
  obtain ⟨a1, b1⟩ := q 1 (fun e _ => by omega)
  obtain ⟨a2, b2⟩ := q 2 (fun e _ => by omega)
  obtain ⟨a3, b3⟩ := q 3 (fun e _ => by omega)
  have a4 := (q 4 (fun e _ => by omega)).1
  refine ⟨by rw [a0, b0]; exact o1, by rw [a1, b1]; exact o2, by rw [a2, b2]; exact o3, by rw [a3, b3]; exact o4, ?_, fun d hd => ?_, fun x y hx hy => ?_, fun k hk => ?_⟩
  · rcases o5 with e | ⟨x, y, h1, h2, h3, h4⟩
    · exact Or.inl (by rw [a4]; exact e)
    · have := o1.2; have := o2.2
      exact Or.inr ⟨x, y, by rw [b0]; exact h1, by rw [b1]; exact h2, by rw [a4]; exact h3, by rw [u (10 + (10 * y + x)) (fun e _ => by omega)]; exact h4⟩
  · rw [b2] at hd
    obtain ⟨p0, p1, p2, p3, p4, p5, p6, p7, p8⟩ := o6 d hd
    obtain ⟨c0, d0⟩ := q (110 + 10 * d) (fun e _ => by omega)
    obtain ⟨c1, d1⟩ := q (111 + 10 * d) (fun e _ => by omega)
    obtain ⟨c2, d2⟩ := q (112 + 10 * d) (fun e _ => by omega)
    obtain ⟨c3, d3⟩ := q (113 + 10 * d) (fun e _ => by omega)
    obtain ⟨c5, d5⟩ := q (115 + 10 * d) (fun e _ => by omega)
    obtain ⟨c6, d6⟩ := q (116 + 10 * d) (fun e _ => by omega)
    obtain ⟨c7, d7⟩ := q (117 + 10 * d) (fun e _ => by omega)
    refine ⟨by rw [c0, d0, b0]; exact p0, by rw [c1, d1, b1]; exact p1, by rw [c2]; exact p2, by rw [c3, d3]; exact p3, hh d hd, by rw [c5, d5]; exact p5, by rw [c6, d6]; exact p6, by rw [c7]; exact p7, fun p hp => ?_⟩
    rw [leafL_up u] at hp
    obtain ⟨z1, z2⟩ := p8 p hp
    refine ⟨by rw [inH_up u]; exact z1, ?_⟩
    have z3 := z1
    unfold inH at z3
    simp only [Bool.and_eq_true, decide_eq_true_eq] at z3
    have := o1.2; have := o2.2
    rw [u (10 + cellN p) (fun e _ => by unfold cellN; omega)]
    exact z2
  · rw [b0] at hx; rw [b1] at hy
    have := o1.2; have := o2.2
    obtain ⟨c1, d1⟩ := q (10 + (10 * y + x)) (fun e _ => by omega)
    obtain ⟨c2, d2⟩ := q (210 + (10 * y + x)) (fun e _ => by omega)
    rw [c1, c2, d2, b2]
    obtain ⟨z1, z2, z3, z4⟩ := o7 x y hx hy
    exact ⟨z1, z2, z3, fun d hd => by rw [leafC_up u]; exact z4 d hd⟩
  · rw [b3] at hk
    have := o4.2
    obtain ⟨c1, d1⟩ := q (310 + k) (fun e _ => by omega)
    rw [c1, d1, b2]
    exact o8 k hk
