set_option maxRecDepth 100000
theorem and255 (x y : Int32) (h : ∀ i : Nat, i < 8 → x.toBitVec.getLsbD i = y.toBitVec.getLsbD i) : x &&& 255 = y &&& 255 := by
  apply Int32.toBitVec_inj.mp
  apply BitVec.eq_of_getLsbD_eq
  intro i hi
  rw [Int32.toBitVec_and, Int32.toBitVec_and, BitVec.getLsbD_and, BitVec.getLsbD_and]
  by_cases h8 : i < 8
  · rw [h i h8]
  · have : (255 : Int32).toBitVec.getLsbD i = false := by
      have e : ∀ j : Nat, j < 32 → ¬ j < 8 → (255 : Int32).toBitVec.getLsbD j = false := by decide
      exact e i hi h8
    rw [this, Bool.and_false, Bool.and_false]
theorem i8_bits (x : Int32) {i : Nat} (hi : i < 8) : x.toInt8.toInt32.toBitVec.getLsbD i = x.toBitVec.getLsbD i := by
  have e : x.toInt8.toInt32.toBitVec = (x.toBitVec.signExtend 8).signExtend 32 := by simp
  have h32 : i < 32 := by omega
  rw [e, BitVec.getLsbD_signExtend, if_pos hi, BitVec.getLsbD_signExtend, if_pos h32]
  simp [hi, h32]
theorem i8_id (x : Int32) : x.toInt8.toInt32.toInt8.toInt32 = x.toInt8.toInt32 := by
  congr 1
  simp
theorem shr_bits (p : Int32) (s i : Nat) (hs : s < 32) (hi : s + i < 32) : (p >>> ((nI s) &&& 31)).toBitVec.getLsbD i = p.toBitVec.getLsbD (s + i) := by
  have e : ∀ k : Nat, k < 32 → (nI k &&& 31).toBitVec.toNat = k := by decide
  have e2 : ∀ k : Nat, k < 32 → ((nI k &&& 31).toBitVec.smod 32#32).toNat = k := by decide
  rw [Int32.toBitVec_shiftRight]
  have e3 : ((nI s &&& 31).toBitVec.smod 32).toNat = s := e2 s hs
  rw [BitVec.sshiftRight_eq', e3, BitVec.getLsbD_sshiftRight]
  have h1 : ¬ 32 ≤ i := by omega
  simp [h1, hi]
theorem ushr_bits (p : Int32) (s i : Nat) (hs : s < 32) (hi : s + i < 32) : (p.toUInt32 >>> ((nI s).toUInt32 &&& Int32.toUInt32 31)).toInt32.toBitVec.getLsbD i = p.toBitVec.getLsbD (s + i) := by
  have e : ∀ k : Nat, k < 32 → (((nI k).toUInt32 &&& Int32.toUInt32 31).toBitVec % 32#32).toNat = k := by decide
  show (p.toUInt32 >>> ((nI s).toUInt32 &&& Int32.toUInt32 31)).toBitVec.getLsbD i = _
  have e3 : (((nI s).toUInt32 &&& Int32.toUInt32 31).toBitVec % 32).toNat = s := e s hs
  rw [UInt32.toBitVec_shiftRight, BitVec.ushiftRight_eq', e3, BitVec.getLsbD_ushiftRight]
  rfl
theorem byte_eq (p : Int32) (s : Nat) (hs : s + 8 ≤ 32) : (p >>> (nI s &&& 31)).toInt8.toInt32 &&& 255 = (p.toUInt32 >>> ((nI s).toUInt32 &&& Int32.toUInt32 31)).toInt32 &&& 255 := by
  refine and255 _ _ (fun i hi => ?_)
  rw [i8_bits _ hi, shr_bits p s i (by omega) (by omega), ushr_bits p s i (by omega) (by omega)]
def byC (p : Int32) (s : Nat) : Int32 := (p >>> (nI s &&& 31)).toInt8.toInt32
/-- a byte comes to the tape -/
def fdX (p : Int32) (s : Nat) (xs : XS) : XS := zI (zA xs 0 (xs.1 1).toNatClampNeg (byC p s)) 1 (xs.1 1 + 1)
def fdM (p : Int32) (s : Nat) (ms : MS) : MS := uI (uA ms 1 (ms.1 2).toNatClampNeg (byC p s &&& 255)) 2 (ms.1 2 + 1)
def fdX4 (p : Int32) (xs : XS) : XS := fdX p 0 (fdX p 8 (fdX p 16 (fdX p 24 xs)))
def fdM4 (p : Int32) (ms : MS) : MS := fdM p 0 (fdM p 8 (fdM p 16 (fdM p 24 ms)))
theorem fd_tape {xs : XS} {ms : MS} (R : Rtape (xs.1 1) (xs.2.2.1 0) (ms.1 2) (ms.2.2.1 1)) (hk : (xs.1 1).toNatClampNeg < 940) (p : Int32) (s : Nat) : Rtape ((fdX p s xs).1 1) ((fdX p s xs).2.2.1 0) ((fdM p s ms).1 2) ((fdM p s ms).2.2.1 1) ∧ ((fdX p s xs).1 1).toNatClampNeg = (xs.1 1).toNatClampNeg + 1 := by
  obtain ⟨r1, r2, r3, r4⟩ := R
  have e1 : (fdX p s xs).1 1 = nI ((xs.1 1).toNatClampNeg + 1) := by
    show xs.1 1 + 1 = _
    rw [nI_succ, ← r2]
  have e2 : ((fdX p s xs).1 1).toNatClampNeg = (xs.1 1).toNatClampNeg + 1 := by rw [e1, nI_clamp (by omega)]
  refine ⟨⟨?_, by rw [e2]; exact e1, by omega, fun i hi => ?_⟩, e2⟩
  · show xs.1 1 + 1 = ms.1 2 + 1
    rw [r1]
  · show va_up (ms.2.2.1 1) (ms.1 2).toNatClampNeg (byC p s &&& 255) i = va_up (xs.2.2.1 0) (xs.1 1).toNatClampNeg (byC p s) i &&& 255 ∧ va_up (xs.2.2.1 0) (xs.1 1).toNatClampNeg (byC p s) i = (va_up (xs.2.2.1 0) (xs.1 1).toNatClampNeg (byC p s) i).toInt8.toInt32
    rw [← r1]
    by_cases z : i = (xs.1 1).toNatClampNeg
    · simp only [va_up, if_pos z, true_and]
      exact (i8_id _).symm
    · simp only [va_up, if_neg z]
      exact r4 i hi
theorem four_run {n : Nat} {g : gH} {xs : XS} (p : Int32) (h2 : xs.1 1 = nI (xs.1 1).toNatClampNeg) (hk : (xs.1 1).toNatClampNeg + 4 ≤ 940) : (M_X1_four n p).1 (mkX n g xs) = some ((), mkX n g (fdX4 p xs)) := by
  have step : ∀ (s : Nat) (xs : XS), s ≤ 24 → xs.1 1 = nI (xs.1 1).toNatClampNeg → (xs.1 1).toNatClampNeg < 940 → ((fun s1 : Int32 => if s1 < 0 then Mo.pure (Sum.inr ()) else Mo.bind (gR [0] n 0) (fun v5 => Mo.bind (gI [0] n 1) (fun v6 => Mo.bind (astI 2 v5 v6 ((p >>> (s1 &&& 31)).toInt8.toInt32)) (fun _ => Mo.bind (gI [0] n 1) (fun v7 => Mo.bind (pF [0] n 1 (.int (v7 + 1))) (fun _ => Mo.lv (s1 + (-8)) (fun v8 => Mo.pure (Sum.inl v8)))))))) (nI s) : Mo (Int32 ⊕ Unit)).1 (mkX n g xs) = some (Sum.inl (nI s + (-8)), mkX n g (fdX p s xs)) := by
    intro s xs hs h2 hk
    dsimp only
    rw [if_neg (nI_pos (by omega)), x_R0, x_I1, x_sA1 (gIn_of h2 (Nat.lt_succ_self _) (by omega) (by decide)), x_I1, x_sI1]
    rfl
  have nx : ∀ (s : Nat) (xs : XS), xs.1 1 = nI (xs.1 1).toNatClampNeg → (xs.1 1).toNatClampNeg < 940 → (fdX p s xs).1 1 = nI ((fdX p s xs).1 1).toNatClampNeg ∧ ((fdX p s xs).1 1).toNatClampNeg = (xs.1 1).toNatClampNeg + 1 := by
    intro s xs h2 hk
    have e1 : (fdX p s xs).1 1 = nI ((xs.1 1).toNatClampNeg + 1) := by
      show xs.1 1 + 1 = _
      rw [nI_succ, ← h2]
    have e2 : ((fdX p s xs).1 1).toNatClampNeg = (xs.1 1).toNatClampNeg + 1 := by rw [e1, nI_clamp (by omega)]
    exact ⟨by rw [e2]; exact e1, e2⟩
  obtain ⟨a1, a2⟩ := nx 24 xs h2 (by omega)
  obtain ⟨b1, b2⟩ := nx 16 _ a1 (by omega)
  obtain ⟨c1, c2⟩ := nx 8 _ b1 (by omega)
  unfold M_X1_four
  rw [x_chk]
  refine Mo.bind_of (a := ()) (h1 := mkX n g (fdX p 0 (fdX p 8 (fdX p 16 (fdX p 24 xs))))) ?_
  rw [Mo.loop_inl (step 24 xs (by omega) h2 (by omega)), Mo.loop_inl (step 16 _ (by omega) a1 (by omega)), Mo.loop_inl (step 8 _ (by omega) b1 (by omega)), Mo.loop_inl (step 0 _ (by omega) c1 (by omega))]
  exact Mo.loop_inr (by rw [if_pos (by decide)]; rfl)
theorem come_run {ms : MS} (p : Int32) (h2 : ms.1 2 = nI (ms.1 2).toNatClampNeg) (hk : (ms.1 2).toNatClampNeg + 4 ≤ 940) : M_X10_come p ms = some ((), fdM4 p ms) := by
  have step : ∀ (s : Nat) (ms : MS), s ≤ 24 → ms.1 2 = nI (ms.1 2).toNatClampNeg → (ms.1 2).toNatClampNeg < 940 → ((fun s1 : Int32 => if s1 < 0 then TM.pure (Sum.inr ()) else TM.bind (tI 2) (fun v5 => TM.bind (sA 1 940 v5 (((p.toUInt32 >>> (s1.toUInt32 &&& Int32.toUInt32 31)).toInt32) &&& 255)) (fun _ => TM.bind (tI 2) (fun v6 => TM.bind (sI 2 (v6 + 1)) (fun _ => TM.lv (s1 + (-8)) (fun v7 => TM.pure (Sum.inl v7))))))) (nI s) : TM (Int32 ⊕ Unit)) ms = some (Sum.inl (nI s + (-8)), fdM p s ms) := by
    intro s ms hs h2 hk
    dsimp only
    rw [if_neg (nI_pos (by omega)), te_I, te_sA (gIn_of h2 (Nat.lt_succ_self _) (by omega) (by decide)), te_I, te_sI, ← byte_eq p s (by omega)]
    rfl
  have nx : ∀ (s : Nat) (ms : MS), ms.1 2 = nI (ms.1 2).toNatClampNeg → (ms.1 2).toNatClampNeg < 940 → (fdM p s ms).1 2 = nI ((fdM p s ms).1 2).toNatClampNeg ∧ ((fdM p s ms).1 2).toNatClampNeg = (ms.1 2).toNatClampNeg + 1 := by
    intro s ms h2 hk
    have e1 : (fdM p s ms).1 2 = nI ((ms.1 2).toNatClampNeg + 1) := by
      show ms.1 2 + 1 = _
      rw [nI_succ, ← h2]
    have e2 : ((fdM p s ms).1 2).toNatClampNeg = (ms.1 2).toNatClampNeg + 1 := by rw [e1, nI_clamp (by omega)]
    exact ⟨by rw [e2]; exact e1, e2⟩
  obtain ⟨a1, a2⟩ := nx 24 ms h2 (by omega)
  obtain ⟨b1, b2⟩ := nx 16 _ a1 (by omega)
  obtain ⟨c1, c2⟩ := nx 8 _ b1 (by omega)
  unfold M_X10_come
  refine t_of (a := ()) (m1 := fdM p 0 (fdM p 8 (fdM p 16 (fdM p 24 ms)))) ?_
  rw [TM.loop_inl (step 24 ms (by omega) h2 (by omega)), TM.loop_inl (step 16 _ (by omega) a1 (by omega)), TM.loop_inl (step 8 _ (by omega) b1 (by omega)), TM.loop_inl (step 0 _ (by omega) c1 (by omega))]
  exact TM.loop_inr (by rw [if_pos (by decide)]; rfl)
theorem fd4_tape {xs : XS} {ms : MS} (R : Rtape (xs.1 1) (xs.2.2.1 0) (ms.1 2) (ms.2.2.1 1)) (hk : (xs.1 1).toNatClampNeg + 4 ≤ 940) (p : Int32) : Rtape ((fdX4 p xs).1 1) ((fdX4 p xs).2.2.1 0) ((fdM4 p ms).1 2) ((fdM4 p ms).2.2.1 1) ∧ ((fdX4 p xs).1 1).toNatClampNeg = (xs.1 1).toNatClampNeg + 4 := by
  obtain ⟨a1, a2⟩ := fd_tape R (by omega) p 24
  obtain ⟨b1, b2⟩ := fd_tape a1 (by omega) p 16
  obtain ⟨c1, c2⟩ := fd_tape b1 (by omega) p 8
  obtain ⟨d1, d2⟩ := fd_tape c1 (by omega) p 0
  exact ⟨d1, by unfold fdX4; omega⟩
/-- only the tape and its length have changed -/
theorem RelC.tape {n : Nat} {F : Fz} {g : gH} {xs xs' : XS} {ms ms' : MS} (R : RelC n F g xs ms) (h1 : ∀ k, k ≠ 1 → xs'.1 k = xs.1 k) (h2 : ∀ k, k ≠ 0 → xs'.2.2.1 k = xs.2.2.1 k) (h3 : xs'.2.1 = xs.2.1) (h4 : xs'.2.2.2 = xs.2.2.2) (m1 : ∀ k, k ≠ 0 → k ≠ 2 → ms'.1 k = ms.1 k) (m2 : ∀ k, k ≠ 1 → ms'.2.2.1 k = ms.2.2.1 k) (m3 : ms'.2.2.2 = ms.2.2.2) (T : Rtape (xs'.1 1) (xs'.2.2.1 0) (ms'.1 2) (ms'.2.2.1 1)) : RelC n F g xs' ms' := by
  have hr : eRow ms' = eRow ms := by funext i; unfold eRow; rw [m1 22 (by decide) (by decide), m2 14 (by decide)]
  have hk : ∀ k, kRow ms' k = kRow ms k := fun k => by funext i; unfold kRow; rw [m2 17 (by decide)]
  obtain ⟨r1, r2, r3, r4, r5, r6, r7, r8, r9, r10, r11, r12, r13⟩ := R
  refine ⟨?_, T, ?_, ?_, ?_, ?_, ?_, ?_, ?_, ?_, ?_, ?_, ?_⟩
  · unfold Rsys at r1 ⊢; rw [h4]; exact r1
  · rw [h1 14 (by decide), m1 10 (by decide) (by decide)]; exact r3
  · rw [h4, m1 23 (by decide) (by decide)]; exact r4
  · rw [m1 22 (by decide) (by decide)]; exact r5
  · rw [h3, h4, h2 200 (by decide), h2 201 (by decide), hr, m3]; exact r6
  · intro k hk2; rw [h4, hk, m3, m2 21 (by decide)]; exact r7 k hk2
  · rw [h1 24 (by decide), h2 22 (by decide), m1 38 (by decide) (by decide), m2 35 (by decide)]; exact r8
  · rw [h1 25 (by decide), h2 23 (by decide), m1 37 (by decide) (by decide), m2 36 (by decide)]; exact r9
  · rw [h1 31 (by decide), h2 27 (by decide), m1 42 (by decide) (by decide), m2 41 (by decide)]; exact r10
  · rw [h1 39 (by decide), h2 37 (by decide), m1 57 (by decide) (by decide), m2 54 (by decide)]; exact r11
  · rw [h1 39 (by decide), h2 37 (by decide)]; exact r12
  · rw [h1 33 (by decide), h2 32 (by decide), m2 48 (by decide)]; exact r13
theorem fdX_same (p : Int32) (s : Nat) (xs : XS) : (∀ k, k ≠ 1 → (fdX p s xs).1 k = xs.1 k) ∧ (∀ k, k ≠ 0 → (fdX p s xs).2.2.1 k = xs.2.2.1 k) ∧ (fdX p s xs).2.1 = xs.2.1 ∧ (fdX p s xs).2.2.2 = xs.2.2.2 :=
  ⟨fun k hk => by simp [fdX, zI, zA, va_up, hk], fun k hk => by simp [fdX, zI, zA, va_up, hk], rfl, rfl⟩
theorem fdM_same (p : Int32) (s : Nat) (ms : MS) : (∀ k, k ≠ 2 → (fdM p s ms).1 k = ms.1 k) ∧ (∀ k, k ≠ 1 → (fdM p s ms).2.2.1 k = ms.2.2.1 k) ∧ (fdM p s ms).2.2.2 = ms.2.2.2 :=
  ⟨fun k hk => by simp [fdM, uI, uA, va_up, hk], fun k hk => by simp [fdM, uI, uA, va_up, hk], rfl⟩
theorem RelC.fd {n : Nat} {F : Fz} {g : gH} {xs : XS} {ms : MS} (R : RelC n F g xs ms) (hk : (xs.1 1).toNatClampNeg < 940) (p : Int32) (s : Nat) : RelC n F g (fdX p s xs) (fdM p s ms) :=
  R.tape (fdX_same p s xs).1 (fdX_same p s xs).2.1 (fdX_same p s xs).2.2.1 (fdX_same p s xs).2.2.2 (fun k _ h => (fdM_same p s ms).1 k h) (fdM_same p s ms).2.1 (fdM_same p s ms).2.2 (fd_tape R.2.1 hk p s).1
theorem RelC.fd4 {n : Nat} {F : Fz} {g : gH} {xs : XS} {ms : MS} (R : RelC n F g xs ms) (hk : (xs.1 1).toNatClampNeg + 4 ≤ 940) (p : Int32) : RelC n F g (fdX4 p xs) (fdM4 p ms) ∧ ((fdX4 p xs).1 1).toNatClampNeg = (xs.1 1).toNatClampNeg + 4 := by
  have a2 := (fd_tape R.2.1 (by omega) p 24).2
  have a1 := R.fd (by omega) p 24
  have b2 := (fd_tape a1.2.1 (by omega) p 16).2
  have b1 := a1.fd (by omega) p 16
  have c2 := (fd_tape b1.2.1 (by omega) p 8).2
  have c1 := b1.fd (by omega) p 8
  have d2 := (fd_tape c1.2.1 (by omega) p 0).2
  exact ⟨c1.fd (by omega) p 0, by unfold fdX4; omega⟩
theorem op_0 {n : Nat} {h : gH} (R : Rel n h) (a : Nat → Int32) : OpOk n h (LS_0 n (n + 50) (n + 83) a) := by
  obtain ⟨F, g, xs, ms, rfl, R⟩ := R
  have R := R.t0 0
  obtain ⟨t1, t2, t3, t4⟩ := R.2.1
  have e20 : (xs.1 1 + 20 ≤ 940) ↔ (xs.1 1).toNatClampNeg + 20 ≤ 940 := by
    have e1 : xs.1 1 + 20 = nI ((xs.1 1).toNatClampNeg + 20) := by
      rw [← nI_add, ← t2]; rfl
    rw [e1, show (940 : Int32) = nI 940 from rfl, nI_le_iff (by omega) (by decide)]
  by_cases hk : (xs.1 1).toNatClampNeg + 20 ≤ 940
  · obtain ⟨A1, A2⟩ := R.fd4 (by omega) (a 1)
    obtain ⟨B1, B2⟩ := A1.fd4 (by omega) (a 2)
    obtain ⟨C1, C2⟩ := B1.fd4 (by omega) (a 3)
    obtain ⟨D1, D2⟩ := C1.fd4 (by omega) (a 4)
    obtain ⟨E1, E2⟩ := D1.fd4 (by omega) (a 5)
    refine OpOk.of (v := (fdX4 (a 5) (fdX4 (a 4) (fdX4 (a 3) (fdX4 (a 2) (fdX4 (a 1) xs))))).1 1) (g' := g) (xs' := fdX4 (a 5) (fdX4 (a 4) (fdX4 (a 3) (fdX4 (a 2) (fdX4 (a 1) xs))))) ?_ ?_ E1 (by omega) (by omega)
    · unfold M_X1_feed
      rw [x_chk, x_I1, if_pos (e20.mpr hk), ev_call (four_run (a 1) R.2.1.2.1 (by omega))]
      rw [ev_call (four_run (a 2) A1.2.1.2.1 (by omega))]
      rw [ev_call (four_run (a 3) B1.2.1.2.1 (by omega))]
      rw [ev_call (four_run (a 4) C1.2.1.2.1 (by omega))]
      rw [ev_call (four_run (a 5) D1.2.1.2.1 (by omega)), x_I1]
      rfl
    · have q : ∀ {ys : XS} {m : MS}, RelC n F g ys m → m.1 2 = nI (m.1 2).toNatClampNeg ∧ (m.1 2).toNatClampNeg = (ys.1 1).toNatClampNeg := fun R => by
        have := R.2.1.1
        rw [← this]; exact ⟨R.2.1.2.1, rfl⟩
      unfold M_X10_feed
      rw [te_sI, te_I, if_pos (by rw [← t1]; exact e20.mpr hk)]
      rw [t_of (come_run (a 1) (q R).1 (by rw [(q R).2]; omega))]
      rw [t_of (come_run (a 2) (q A1).1 (by rw [(q A1).2]; omega))]
      rw [t_of (come_run (a 3) (q B1).1 (by rw [(q B1).2]; omega))]
      rw [t_of (come_run (a 4) (q C1).1 (by rw [(q C1).2]; omega))]
      rw [t_of (come_run (a 5) (q D1).1 (by rw [(q D1).2]; omega)), te_I]
      have := E1.2.1.1
      rw [this]
      rfl
  · refine OpOk.of (v := -1) (g' := g) (xs' := xs) (by unfold M_X1_feed; rw [x_chk, x_I1, if_neg (fun z => hk (e20.mp z))]; rfl) (ms' := uI ms 0 0) ?_ R (by omega) (by omega)
    unfold M_X10_feed
    rw [te_sI, te_I, if_neg (by rw [← t1]; exact fun z => hk (e20.mp z))]
    rfl
theorem op_1 {n : Nat} {h : gH} (R : Rel n h) (a : Nat → Int32) : OpOk n h (LS_1 n (n + 50) (n + 83) a) := by
  obtain ⟨F, g, xs, ms, rfl, R⟩ := R
  have R := R.t0 0
  obtain ⟨t1, t2, t3, t4⟩ := R.2.1
  by_cases h0 : a 1 < 0
  · exact OpOk.of (v := false) (g' := g) (xs' := xs) (by unfold M_X1_end; rw [x_chk, if_pos h0]; rfl) (ms' := uI ms 0 0) (by unfold M_X10_end; rw [te_sI, if_pos h0]; rfl) R (by omega) (by omega)
  · by_cases h1 : a 1 ≤ xs.1 1
    · refine OpOk.of (F' := F) (v := true) (g' := g) (xs' := zI xs 1 (a 1)) (by unfold M_X1_end; rw [x_chk, if_neg h0, x_I1, if_pos h1, x_sI1]; rfl) (ms' := uI (uI ms 0 0) 2 (a 1)) (by unfold M_X10_end; rw [te_sI, if_neg h0, te_I, if_pos (by rw [← t1]; exact h1), te_sI]; rfl) ?_ (by omega) (by omega)
      obtain ⟨c1, c2⟩ := nI_self h0
      refine R.tape (fun k hk => by simp [zI, va_up, hk]) (fun _ _ => rfl) rfl rfl (fun k h1 h2 => by simp [uI, va_up, h2]) (fun _ _ => rfl) rfl ⟨rfl, c1, ?_, t4⟩
      have h1 := h1
      rw [c1, t2, nI_le_iff c2 (by omega)] at h1
      show (a 1).toNatClampNeg ≤ 940
      omega
    · exact OpOk.of (v := false) (g' := g) (xs' := xs) (by unfold M_X1_end; rw [x_chk, if_neg h0, x_I1, if_neg h1]; rfl) (ms' := uI ms 0 0) (by unfold M_X10_end; rw [te_sI, if_neg h0, te_I, if_neg (by rw [← t1]; exact h1)]; rfl) R (by omega) (by omega)
