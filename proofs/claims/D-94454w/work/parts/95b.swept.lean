set_option maxRecDepth 100000
/-- two states of the reference are the same but for the ints I, the rows A, the rows of longs B (and the word) -/
def sameB (I A B : List Nat) (m m' : MS) : Prop := (∀ k, k ∉ I → m'.1 k = m.1 k) ∧ (∀ k, k ∉ A → m'.2.2.1 k = m.2.2.1 k) ∧ ∀ k, k ∉ B → m'.2.2.2 k = m.2.2.2 k
theorem sameB.rf {I A B : List Nat} {m : MS} : sameB I A B m m := ⟨fun _ _ => rfl, fun _ _ => rfl, fun _ _ => rfl⟩
theorem sameB.tr {I A B : List Nat} {m m' m2 : MS} (h : sameB I A B m m') (k : sameB I A B m' m2) : sameB I A B m m2 := ⟨fun j hj => (k.1 j hj).trans (h.1 j hj), fun j hj => (k.2.1 j hj).trans (h.2.1 j hj), fun j hj => (k.2.2 j hj).trans (h.2.2 j hj)⟩
theorem sameB.up {I A B I' A' B' : List Nat} {m m' : MS} (h : sameB I A B m m') (hI : ∀ k ∈ I, k ∈ I') (hA : ∀ k ∈ A, k ∈ A') (hB : ∀ k ∈ B, k ∈ B') : sameB I' A' B' m m' := ⟨fun j hj => h.1 j (fun z => hj (hI j z)), fun j hj => h.2.1 j (fun z => hj (hA j z)), fun j hj => h.2.2 j (fun z => hj (hB j z))⟩
theorem RelC.sm {n : Nat} {F : Fz} {g : gH} {xs : XS} {ms ms' : MS} {I A B : List Nat} (R : RelC n F g xs ms) (h : sameB I A B ms ms') (hI : ∀ k ∈ relI, k ∉ I) (hA : ∀ k ∈ relA, k ∉ A) (hB : ∀ k ∈ [18, 20], k ∉ B) : RelC n F g xs ms' :=
  R.ms (fun k hk => h.1 k (hI k hk)) (fun k hk => h.2.1 k (hA k hk)) (fun k hk => h.2.2 k (hB k hk))
theorem nin_ne {k j : Nat} {L : List Nat} (h : k ∉ L) (hj : j ∈ L) : k ≠ j := fun e => h (e ▸ hj)
theorem sameB.uI {I A B : List Nat} {m m' : MS} {k : Nat} {x : Int32} (h : sameB I A B m m') (hk : k ∈ I) : sameB I A B m (uI m' k x) := ⟨fun j hj => (va_ne (nin_ne hj hk)).trans (h.1 j hj), h.2.1, h.2.2⟩
theorem sameB.uA {I A B : List Nat} {m m' : MS} {k i : Nat} {x : Int32} (h : sameB I A B m m') (hk : k ∈ A) : sameB I A B m (uA m' k i x) := ⟨h.1, fun j hj => (va_ne (nin_ne hj hk)).trans (h.2.1 j hj), h.2.2⟩
theorem sameB.uB {I A B : List Nat} {m m' : MS} {k i : Nat} {x : Int64} (h : sameB I A B m m') (hk : k ∈ B) : sameB I A B m (uB m' k i x) := ⟨h.1, h.2.1, fun j hj => (va_ne (nin_ne hj hk)).trans (h.2.2 j hj)⟩
theorem sameB.uL {I A B : List Nat} {m m' : MS} {k : Nat} {x : Int64} (h : sameB I A B m m') : sameB I A B m (uL m' k x) := h
theorem doors_run {m : MS} {r : Row} (hr : m.2.2.1 14 = r) : M_X10_doors m = some (r 2, m) := by
  unfold M_X10_doors
  rw [te_A (by decide), hr]
  rfl
/-- what all doors sweep is laid -/
def swOk (m : MS) (r : Row) (D : Nat) : Prop := (∀ d, d < D → m.2.2.1 29 d = domR r d) ∧ ∀ d h, d < D → h < 4 → m.2.2.2 27 (4 * d + h) = bitsLow (sweptC r d h) ∧ m.2.2.2 28 (4 * d + h) = bitsHigh (sweptC r d h)
def orLow (v : Int64) (L : List Nat) : Int64 := L.foldl (fun v c => if c < 50 then v ||| bitC c else v) v
def orHigh (v : Int64) (L : List Nat) : Int64 := L.foldl (fun v c => if c < 50 then v else v ||| bitC (c - 50)) v
theorem canB_in {r : Row} (ok : okRow r) {d h a : Nat} (ha : a ≠ 0) (hc : canB r d h a = true) : ∀ p ∈ leafL r d h a, inG p = true := by
  intro p hp
  unfold canB freeL at hc
  simp only [ha, beq_iff_eq, Bool.or_eq_true, false_or, List.all_eq_true, Bool.and_eq_true] at hc
  have h1 := (hc p hp).1
  have := ok.1.2
  have := ok.2.1.2
  unfold inH at h1
  unfold inG
  simp only [Bool.and_eq_true, decide_eq_true_eq] at h1 ⊢
  omega
theorem leafC_all {r : Row} (ok : okRow r) {d h a : Nat} (ha : a ≠ 0) (hc : canB r d h a = true) : leafC r d h a = (leafL r d h a).map cellN := by
  unfold leafC
  rw [List.filter_eq_self.mpr (canB_in ok ha hc)]
theorem i64_nI {c : Nat} (h : c < 2 ^ 31) : (nI c).toInt64 = Int64.ofNat c := nI_l h
def swA (r : Row) (d h a : Nat) : List Nat := (if 2 ≤ a ∧ canB r d h 1 = true then leafC r d h 1 else []) ++ (if 3 ≤ a ∧ canB r d h 2 = true then leafC r d h 2 else [])
theorem swA_f (r : Row) (d h a : Nat) (h1 : 1 ≤ a) (h3 : a < 3) (hc : canB r d h a = false) : swA r d h (a + 1) = swA r d h a := by
  unfold swA
  rcases (show a = 1 ∨ a = 2 by omega) with rfl | rfl <;> simp [hc]
theorem swA_t (r : Row) (d h a : Nat) (h1 : 1 ≤ a) (h3 : a < 3) (hc : canB r d h a = true) : swA r d h (a + 1) = swA r d h a ++ leafC r d h a := by
  unfold swA
  rcases (show a = 1 ∨ a = 2 by omega) with rfl | rfl <;> simp [hc]
theorem swA_3 (r : Row) (d h : Nat) : swA r d h 3 = sweptC r d h := by
  unfold swA sweptC
  simp
set_option maxHeartbeats 4000000 in
theorem laySwept_run {m : MS} {r : Row} (hr : m.2.2.1 14 = r) (hb : m.1 22 = 1) (ok : okRow r) : Ok (M_X10_laySwept m) (fun _ m' => swOk m' r (rN r 2) ∧ sameB [26] [24, 25, 29] [27, 28] m m') := by
  have hm := ok.2.2.1.2
  unfold M_X10_laySwept
  have hl := lay_run (ms := m) (Or.inr hb)
  have el : lyd m = m := by unfold lyd; rw [if_pos hb]
  rw [el] at hl
  rw [t_of hl]
  refine Ok.bT (P := fun _ m' => swOk m' r (rN r 2) ∧ sameB [26] [24, 25, 29] [27, 28] m m') ?_ (fun _ m' q => Ok.pT q)
  refine Ok.forT (S := Int32) (fun i => nI i) (rN r 2) (fun i m' => swOk m' r i ∧ sameB [26] [24, 25, 29] [27, 28] m m') (fun d m1 hd hI => ?_) (fun m1 hI => ?_) (i := 0) (by omega) ⟨⟨fun d hd => by omega, fun d h hd => by omega⟩, sameB.rf⟩
  · obtain ⟨hS, hB⟩ := hI
    have hr1 : m1.2.2.1 14 = r := (hB.2.1 14 (by decide)).trans hr
    rw [t_of (doors_run hr1), ok.2.2.1.1]
    simp (disch := omega) only [tq_I, tq_L, tq_sI, tq_sL, tq_lv, tq_pure, lvT, TM.bind_assoc, TM.pure_bind, TM.bind_pure, te_An, te_Bn, te_sAn, te_sBn, t_doors, t_hasn, t_isIn, t_of0, t_of1, t_of2, t_of3, t_of4, t_of5, t_of6, t_of7, lit, nI_add, nI_mul, nI_subn, le_t, le_f, lt_t, lt_f, eq_t, eq_f, eqm_f, ltz_f, cond_true, cond_false, if_true, if_false]
    refine Ok.bT (P := fun _ m' => m'.2.2.1 29 d = domR r d ∧ (∀ h, h < 4 → m'.2.2.2 27 (4 * d + h) = bitsLow (sweptC r d h) ∧ m'.2.2.2 28 (4 * d + h) = bitsHigh (sweptC r d h)) ∧ swOk m' r d ∧ sameB [26] [24, 25, 29] [27, 28] m m') ?_ (fun _ m2 q => ?_)
    · refine Ok.forT (S := Int32) (fun i => nI i) 4 (fun i m' => m'.2.2.1 29 d = domF r d i ∧ (∀ h, h < i → m'.2.2.2 27 (4 * d + h) = bitsLow (sweptC r d h) ∧ m'.2.2.2 28 (4 * d + h) = bitsHigh (sweptC r d h)) ∧ swOk m' r d ∧ sameB [26] [24, 25, 29] [27, 28] m m') (fun h m2 hh hI => ?_) (fun m2 hI => ?_) (i := 0) (by omega) ⟨va_eq, fun h hh => by omega, ⟨fun e he => ?_, hS.2⟩, hB.uA (by decide)⟩
      · obtain ⟨h1, h2, h3, h4⟩ := hI
        have hr2 : m2.2.2.1 14 = r := (h4.2.1 14 (by decide)).trans hr
        simp (disch := omega) only [tq_I, tq_L, tq_sI, tq_sL, tq_lv, tq_pure, lvT, TM.bind_assoc, TM.pure_bind, TM.bind_pure, te_An, te_Bn, te_sAn, te_sBn, t_doors, t_hasn, t_isIn, t_of0, t_of1, t_of2, t_of3, t_of4, t_of5, t_of6, t_of7, lit, nI_add, nI_mul, nI_subn, le_t, le_f, lt_t, lt_f, eq_t, eq_f, eqm_f, ltz_f, cond_true, cond_false, if_true, if_false, hr2]
        have E0 : sameB [26] [24, 25, 29] [27, 28] m (uB (uB m2 27 (4 * d + h) 0) 28 (4 * d + h) 0) := (h4.uB (by decide)).uB (by decide)
        have hr3 : (uB (uB m2 27 (4 * d + h) 0) 28 (4 * d + h) 0).2.2.1 14 = r := hr2
        refine Ok.bT (P := fun _ m' => m'.2.2.1 29 d = domF r d (h + 1) ∧ m'.2.2.2 = (uB (uB m2 27 (4 * d + h) 0) 28 (4 * d + h) 0).2.2.2 ∧ (∀ e, e < d → m'.2.2.1 29 e = domR r e) ∧ sameB [26] [24, 25, 29] [27, 28] m m') ?_ (fun _ m3 q => ?_)
        · rw [hr3]
          cases c5 : hasB (r (115 + 10 * d)) h with
          | false => exact Ok.pT ⟨by rw [domF_succ, c5]; exact h1.trans (or_zero32 _).symm, rfl, h3.1, E0⟩
          | true =>
            obtain ⟨f1, f2, f3⟩ := ftM_same (uB (uB m2 27 (4 * d + h) 0) 28 (4 * d + h) 0) ok hd h
            rw [cond_true, t_of (isFit_run hr3 ok hd hh)]
            have E1 : sameB [26] [24, 25, 29] [27, 28] m (ftM (uB (uB m2 27 (4 * d + h) 0) 28 (4 * d + h) 0) r d h) := E0.tr ⟨fun j hj => f1 j (nin_ne hj (by decide)), fun j hj => f2 j (nin_ne hj (by decide)) (nin_ne hj (by decide)), fun j hj => by rw [f3]⟩
            have e29 : (ftM (uB (uB m2 27 (4 * d + h) 0) 28 (4 * d + h) 0) r d h).2.2.1 29 = m2.2.2.1 29 := f2 29 (by decide) (by decide)
            cases c6 : isFitR r d h with
            | false => exact Ok.pT ⟨by rw [domF_succ, c5, c6, e29]; exact h1.trans (or_zero32 _).symm, f3, by rw [e29]; exact h3.1, E1⟩
            | true =>
              simp (disch := omega) only [tq_I, tq_L, tq_sI, tq_sL, tq_lv, tq_pure, lvT, TM.bind_assoc, TM.pure_bind, TM.bind_pure, te_An, te_Bn, te_sAn, te_sBn, t_doors, t_hasn, t_isIn, t_of0, t_of1, t_of2, t_of3, t_of4, t_of5, t_of6, t_of7, lit, nI_add, nI_mul, nI_subn, le_t, le_f, lt_t, lt_f, eq_t, eq_f, eqm_f, ltz_f, cond_true, cond_false, if_true, if_false]
              refine Ok.pT ⟨?_, f3, fun e he => ?_, E1.uA (by decide)⟩
              · rw [uA_22, va_eq, va_eq, e29, h1, domF_succ, c5, c6]; rfl
              · rw [uA_22, va_eq, va_ne (by omega), e29]; exact h3.1 e he
        · obtain ⟨q1, q2, q3, q4⟩ := q
          refine Ok.bT (P := fun _ m' => m'.2.2.1 29 d = domF r d (h + 1) ∧ (∀ e, e < d → m'.2.2.1 29 e = domR r e) ∧ m'.2.2.2 27 (4 * d + h) = orLow 0 (sweptC r d h) ∧ m'.2.2.2 28 (4 * d + h) = orHigh 0 (sweptC r d h) ∧ (∀ j i, (j ≠ 27 ∧ j ≠ 28) ∨ i ≠ 4 * d + h → m'.2.2.2 j i = m2.2.2.2 j i) ∧ sameB [26] [24, 25, 29] [27, 28] m m') ?_ (fun _ m4 q => ?_)
          · refine Ok.forT (S := Int32) (fun i => nI i) 3 (fun a m' => 1 ≤ a ∧ m'.2.2.1 29 d = domF r d (h + 1) ∧ (∀ e, e < d → m'.2.2.1 29 e = domR r e) ∧ m'.2.2.2 27 (4 * d + h) = orLow 0 (swA r d h a) ∧ m'.2.2.2 28 (4 * d + h) = orHigh 0 (swA r d h a) ∧ (∀ j i, (j ≠ 27 ∧ j ≠ 28) ∨ i ≠ 4 * d + h → m'.2.2.2 j i = m2.2.2.2 j i) ∧ sameB [26] [24, 25, 29] [27, 28] m m') (fun a m4 ha hI => ?_) (fun m4 hI => ?_) (i := 1) (by omega) ⟨by omega, q1, q3, ?_, ?_, ?_, q4⟩
            · obtain ⟨i0, i1, i2, i3, i4, i5, i6⟩ := hI
              have hr4 : m4.2.2.1 14 = r := (i6.2.1 14 (by decide)).trans hr
              have a0 : a ≠ 0 := by omega
              obtain ⟨g1, g2, g3, g4, g5⟩ := lfM_get (m := m4) (okLen ok hd h a)
              simp (disch := omega) only [tq_I, tq_L, tq_sI, tq_sL, tq_lv, tq_pure, lvT, TM.bind_assoc, TM.pure_bind, TM.bind_pure, te_An, te_Bn, te_sAn, te_sBn, t_doors, t_hasn, t_isIn, t_of0, t_of1, t_of2, t_of3, t_of4, t_of5, t_of6, t_of7, lit, nI_add, nI_mul, nI_subn, le_t, le_f, lt_t, lt_f, eq_t, eq_f, eqm_f, ltz_f, cond_true, cond_false, if_true, if_false]
              rw [t_of (canBe_run hr4 ok hd hh ha)]
              unfold cnM
              rw [if_neg a0]
              have E1 : sameB [26] [24, 25, 29] [27, 28] m (lfM m4 (leafL r d h a)) := i6.tr ⟨fun j hj => g2 j (nin_ne hj (by decide)), fun j hj => g3 j (nin_ne hj (by decide)) (nin_ne hj (by decide)), fun j hj => by rw [g4]⟩
              have e29 : (lfM m4 (leafL r d h a)).2.2.1 29 = m4.2.2.1 29 := g3 29 (by decide) (by decide)
              cases cc : canB r d h a with
              | false =>
                simp (disch := omega) only [tq_I, tq_L, tq_sI, tq_sL, tq_lv, tq_pure, lvT, TM.bind_assoc, TM.pure_bind, TM.bind_pure, te_An, te_Bn, te_sAn, te_sBn, t_doors, t_hasn, t_isIn, t_of0, t_of1, t_of2, t_of3, t_of4, t_of5, t_of6, t_of7, lit, nI_add, nI_mul, nI_subn, le_t, le_f, lt_t, lt_f, eq_t, eq_f, eqm_f, ltz_f, cond_true, cond_false, if_true, if_false]
                refine Ok.pT ⟨rfl, by omega, by rw [e29]; exact i1, by rw [e29]; exact i2, ?_, ?_, fun j i hj => by rw [g4]; exact i5 j i hj, E1⟩
                · rw [g4, i3, swA_f r d h a i0 ha cc]
                · rw [g4, i4, swA_f r d h a i0 ha cc]
              | true =>
                simp (disch := omega) only [tq_I, tq_L, tq_sI, tq_sL, tq_lv, tq_pure, lvT, TM.bind_assoc, TM.pure_bind, TM.bind_pure, te_An, te_Bn, te_sAn, te_sBn, t_doors, t_hasn, t_isIn, t_of0, t_of1, t_of2, t_of3, t_of4, t_of5, t_of6, t_of7, lit, nI_add, nI_mul, nI_subn, le_t, le_f, lt_t, lt_f, eq_t, eq_f, eqm_f, ltz_f, cond_true, cond_false, if_true, if_false]
                have hin := canB_in ok a0 cc
                have hL4 := okLen ok hd h a
                have hC := leafC_all ok a0 cc
                have eC := swA_t r d h a i0 ha cc
                rw [hC] at eC
                generalize leafL r d h a = L at *
                refine Ok.bT (P := fun _ m' => m' = (L.map cellN).foldl (stB (4 * d + h)) (lfM m4 L)) ?_ (fun _ m5 q5 => ?_)
                · refine Ok.forT (S := Int32) (fun i => nI i) L.length (fun i m' => m' = ((L.take i).map cellN).foldl (stB (4 * d + h)) (lfM m4 L)) (fun i m5 hi hI => ?_) (fun m5 hI => ?_) (i := 0) (by omega) rfl
                  · obtain ⟨s1, s2, s3, s4, s5, s6⟩ := stB_fold (4 * d + h) ((L.take i).map cellN) (lfM m4 L)
                    rw [← hI] at s1 s2 s3 s4 s5 s6
                    obtain ⟨x1, x2⟩ := g5 i hi
                    have hp := inG_pc (hin L[i] (List.getElem_mem hi))
                    have eadd : nI 10 * iZ L[i].2 + iZ L[i].1 = nI (cellN L[i]) := by
                      rw [iZ_nat, iZ_mul, iZ_add, iZ_nat]
                      congr 1
                      have := hin L[i] (List.getElem_mem hi)
                      unfold inG at this
                      unfold cellN
                      simp only [Bool.and_eq_true, decide_eq_true_eq] at this
                      omega
                    have est : ((L.take (i + 1)).map cellN).foldl (stB (4 * d + h)) (lfM m4 L) = stB (4 * d + h) m5 (cellN L[i]) := by
                      rw [hI, List.take_succ_eq_append_getElem hi, List.map_append, List.foldl_append]; rfl
                    show Ok _ (lpQ (fun s' m' => s' = nI (i + 1) ∧ m' = ((L.take (i + 1)).map cellN).foldl (stB (4 * d + h)) (lfM m4 L)) _)
                    rw [est]
                    simp (disch := omega) only [tq_I, tq_L, tq_sI, tq_sL, tq_lv, tq_pure, lvT, TM.bind_assoc, TM.pure_bind, TM.bind_pure, te_An, te_Bn, te_sAn, te_sBn, t_doors, t_hasn, t_isIn, t_of0, t_of1, t_of2, t_of3, t_of4, t_of5, t_of6, t_of7, lit, nI_add, nI_mul, nI_subn, le_t, le_f, lt_t, lt_f, eq_t, eq_f, eqm_f, ltz_f, cond_true, cond_false, if_true, if_false, s1, g1, s3, x1, x2, eadd]
                    have h100 := hp.2
                    have e40 : 4 * d + h < 40 := by omega
                    generalize cellN L[i] = c at h100
                    by_cases c5 : c < 50
                    · simp (disch := omega) only [tq_I, tq_L, tq_sI, tq_sL, tq_lv, tq_pure, lvT, TM.bind_assoc, TM.pure_bind, TM.bind_pure, te_An, te_Bn, te_sAn, te_sBn, t_doors, t_hasn, t_isIn, t_of0, t_of1, t_of2, t_of3, t_of4, t_of5, t_of6, t_of7, lit, nI_add, nI_mul, nI_subn, le_t, le_f, lt_t, lt_f, eq_t, eq_f, eqm_f, ltz_f, cond_true, cond_false, if_true, if_false, i64_nI]
                      refine Ok.pT ⟨rfl, ?_⟩
                      unfold stB
                      rw [if_pos c5]; rfl
                    · simp (disch := omega) only [tq_I, tq_L, tq_sI, tq_sL, tq_lv, tq_pure, lvT, TM.bind_assoc, TM.pure_bind, TM.bind_pure, te_An, te_Bn, te_sAn, te_sBn, t_doors, t_hasn, t_isIn, t_of0, t_of1, t_of2, t_of3, t_of4, t_of5, t_of6, t_of7, lit, nI_add, nI_mul, nI_subn, le_t, le_f, lt_t, lt_f, eq_t, eq_f, eqm_f, ltz_f, cond_true, cond_false, if_true, if_false, i64_nI]
                      refine Ok.pT ⟨rfl, ?_⟩
                      unfold stB
                      rw [if_neg c5]; rfl
                  · obtain ⟨s1, s2, s3, s4, s5, s6⟩ := stB_fold (4 * d + h) ((L.take L.length).map cellN) (lfM m4 L)
                    rw [← hI] at s1
                    simp (disch := omega) only [tq_I, tq_L, tq_sI, tq_sL, tq_lv, tq_pure, lvT, TM.bind_assoc, TM.pure_bind, TM.bind_pure, te_An, te_Bn, te_sAn, te_sBn, t_doors, t_hasn, t_isIn, t_of0, t_of1, t_of2, t_of3, t_of4, t_of5, t_of6, t_of7, lit, nI_add, nI_mul, nI_subn, le_t, le_f, lt_t, lt_f, eq_t, eq_f, eqm_f, ltz_f, cond_true, cond_false, if_true, if_false, s1, g1]
                    refine Ok.pT ?_
                    show m5 = _
                    rw [hI, List.take_length]
                · simp (disch := omega) only [tq_I, tq_L, tq_sI, tq_sL, tq_lv, tq_pure, lvT, TM.bind_assoc, TM.pure_bind, TM.bind_pure, te_An, te_Bn, te_sAn, te_sBn, t_doors, t_hasn, t_isIn, t_of0, t_of1, t_of2, t_of3, t_of4, t_of5, t_of6, t_of7, lit, nI_add, nI_mul, nI_subn, le_t, le_f, lt_t, lt_f, eq_t, eq_f, eqm_f, ltz_f, cond_true, cond_false, if_true, if_false]
                  obtain ⟨s1, s2, s3, s4, s5, s6⟩ := stB_fold (4 * d + h) (L.map cellN) (lfM m4 L)
                  rw [← q5] at s1 s2 s3 s4 s5 s6
                  refine Ok.pT ⟨rfl, by omega, by rw [s3, e29]; exact i1, by rw [s3, e29]; exact i2, ?_, ?_, fun j i hj => by rw [s4 j i hj, g4]; exact i5 j i hj, E1.tr ⟨fun j hj => by rw [s1], fun j hj => by rw [s3], fun j hj => ?_⟩⟩
                  · rw [s5, g4, i3, eC]; unfold orLow; rw [List.foldl_append]
                  · rw [s6, g4, i4, eC]; unfold orHigh; rw [List.foldl_append]
                  · funext i
                    exact s4 j i (Or.inl ⟨nin_ne hj (by decide), nin_ne hj (by decide)⟩)
            · simp (disch := omega) only [tq_I, tq_L, tq_sI, tq_sL, tq_lv, tq_pure, lvT, TM.bind_assoc, TM.pure_bind, TM.bind_pure, te_An, te_Bn, te_sAn, te_sBn, t_doors, t_hasn, t_isIn, t_of0, t_of1, t_of2, t_of3, t_of4, t_of5, t_of6, t_of7, lit, nI_add, nI_mul, nI_subn, le_t, le_f, lt_t, lt_f, eq_t, eq_f, eqm_f, ltz_f, cond_true, cond_false, if_true, if_false]
              obtain ⟨i0, i1, i2, i3, i4, i5, i6⟩ := hI
              rw [swA_3] at i3 i4
              exact Ok.pT ⟨i1, i2, i3, i4, i5, i6⟩
            · rw [q2]; simp only [uB_3, va_eq, va_ne (show (27 : Nat) ≠ 28 by decide)]; rfl
            · rw [q2]; simp only [uB_3, va_eq]; rfl
            · intro j i hj
              rw [q2, uB_3, uB_3]
              rcases hj with hj | hj
              · rw [va_ne hj.2, va_ne hj.1]
              · by_cases z : j = 28
                · rw [z, va_eq, va_ne hj, va_ne (show (28 : Nat) ≠ 27 by decide)]
                · rw [va_ne z]
                  by_cases y : j = 27
                  · rw [y, va_eq, va_ne hj]
                  · rw [va_ne y]
          · obtain ⟨i1, i2, i3, i4, i5, i6⟩ := q
            simp (disch := omega) only [tq_I, tq_L, tq_sI, tq_sL, tq_lv, tq_pure, lvT, TM.bind_assoc, TM.pure_bind, TM.bind_pure, te_An, te_Bn, te_sAn, te_sBn, t_doors, t_hasn, t_isIn, t_of0, t_of1, t_of2, t_of3, t_of4, t_of5, t_of6, t_of7, lit, nI_add, nI_mul, nI_subn, le_t, le_f, lt_t, lt_f, eq_t, eq_f, eqm_f, ltz_f, cond_true, cond_false, if_true, if_false]
            refine Ok.pT ⟨rfl, i1, fun g hg => ?_, ⟨i2, fun e g he hg => ?_⟩, i6⟩
            · by_cases z : g = h
              · rw [z]; exact ⟨i3, i4⟩
              · rw [i5 27 _ (Or.inr (by omega)), i5 28 _ (Or.inr (by omega))]
                exact h2 g (by omega)
            · rw [i5 27 _ (Or.inr (by omega)), i5 28 _ (Or.inr (by omega))]
              exact h3.2 e g he hg
      · simp (disch := omega) only [tq_I, tq_L, tq_sI, tq_sL, tq_lv, tq_pure, lvT, TM.bind_assoc, TM.pure_bind, TM.bind_pure, te_An, te_Bn, te_sAn, te_sBn, t_doors, t_hasn, t_isIn, t_of0, t_of1, t_of2, t_of3, t_of4, t_of5, t_of6, t_of7, lit, nI_add, nI_mul, nI_subn, le_t, le_f, lt_t, lt_f, eq_t, eq_f, eqm_f, ltz_f, cond_true, cond_false, if_true, if_false]
        exact Ok.pT hI
      · rw [uA_22, va_eq, va_ne (by omega)]; exact hS.1 e he
    · obtain ⟨q1, q2, q3, q4⟩ := q
      simp (disch := omega) only [tq_I, tq_L, tq_sI, tq_sL, tq_lv, tq_pure, lvT, TM.bind_assoc, TM.pure_bind, TM.bind_pure, te_An, te_Bn, te_sAn, te_sBn, t_doors, t_hasn, t_isIn, t_of0, t_of1, t_of2, t_of3, t_of4, t_of5, t_of6, t_of7, lit, nI_add, nI_mul, nI_subn, le_t, le_f, lt_t, lt_f, eq_t, eq_f, eqm_f, ltz_f, cond_true, cond_false, if_true, if_false]
      refine Ok.pT ⟨rfl, ⟨fun e he => ?_, fun e h he hh => ?_⟩, q4⟩
      · by_cases z : e = d
        · rw [z]; exact q1
        · exact q3.1 e (by omega)
      · by_cases z : e = d
        · rw [z]; exact q2 h hh
        · exact q3.2 e h (by omega) hh
  · obtain ⟨hS, hB⟩ := hI
    have hr1 : m1.2.2.1 14 = r := (hB.2.1 14 (by decide)).trans hr
    rw [t_of (doors_run hr1), ok.2.2.1.1]
    simp (disch := omega) only [tq_I, tq_L, tq_sI, tq_sL, tq_lv, tq_pure, lvT, TM.bind_assoc, TM.pure_bind, TM.bind_pure, te_An, te_Bn, te_sAn, te_sBn, t_doors, t_hasn, t_isIn, t_of0, t_of1, t_of2, t_of3, t_of4, t_of5, t_of6, t_of7, lit, nI_add, nI_mul, nI_subn, le_t, le_f, lt_t, lt_f, eq_t, eq_f, eqm_f, ltz_f, cond_true, cond_false, if_true, if_false]
    exact Ok.pT ⟨hS, hB⟩
