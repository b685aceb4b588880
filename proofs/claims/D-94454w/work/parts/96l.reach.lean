set_option maxRecDepth 100000
section
variable {n : Nat} {F : Fz} {G : gH} {ho : Nat} {r : Row} {nm : Nat → Int64} {an : Nat → Nat} {p : Int32}
/-- how the reference's walk stands: N cells q, those that are met -/
def WoI (r : Row) (an : Nat → Nat) (c0 : Nat) (m1 : MS) (N : Nat) (q sn : Nat → Nat) (i0 : Nat) (m : MS) : Prop := m.1 55 = nI N ∧ (∀ i, i < N → m.2.2.1 50 i = nI (q i) ∧ q i < 100) ∧ (∀ x, x < 100 → m.2.2.1 58 x = nI (sn x)) ∧ (∀ x, sn x ≤ 1) ∧ (∀ i, i < N → sn (q i) = 1) ∧ (∀ x, x < 100 → sn x = 1 → ∃ i, i < N ∧ q i = x) ∧ sumN sn 100 = N ∧ (∀ i, i < i0 → i < N → ∀ k, k < 4 → okN r an (q i) k = true → sn (tgt (q i) k) = 1) ∧ (∀ U, U c0 → closed r an U → ∀ i, i < N → U (q i)) ∧ sn c0 = 1 ∧ sameB [55] [50, 58] [] m1 m
set_option maxHeartbeats 4000000 in
theorem walkOn_run (ok : okRow r) {c0 : Nat} (hc : c0 < 100) {m1 : MS} (V : WM r an (nI c0) m1) (h58 : ∀ x, x < 100 → m1.2.2.1 58 x = nI 0) : Ok (M_X10_walkOn m1) (fun _ m' => ∃ N q sn, WoI r an c0 m1 N q sn N m') := by
  have hm := ok.2.2.1.2
  obtain ⟨v1, v2, v3, v4⟩ := V
  unfold M_X10_walkOn
  simp (disch := omega) only [tq_I, tq_L, tq_sI, tq_sL, tq_lv, tq_pure, lvT, TM.bind_assoc, TM.pure_bind, TM.bind_pure, te_An, te_Bn, te_sAn, te_sBn, t_doors, t_hasn, t_isIn, t_of0, t_of1, t_of2, t_of3, t_of4, t_of5, t_of6, t_of7, lit, nI_add, nI_mul, nI_subn, le_t, le_f, lt_t, lt_f, eq_t, eq_f, eqm_f, ltz_f, cond_true, cond_false, if_true, if_false, v3, uA_1, uI_1, va_ne]
  have u0 : ∀ x, upN (fun _ => 0) c0 1 x ≤ 1 := fun x => by
    by_cases z : x = c0
    · rw [z, upN_eq]; omega
    · rw [upN_ne z]; omega
  have hsum0 : sumN (upN (fun _ => 0) c0 1) 100 = 1 := by
    have := sum_turn (f := fun _ => 0) (d := c0) (v := 1) 100 hc
    have z := sumN_zero (f := fun _ => 0) 100 (fun _ _ => rfl)
    omega
  refine Ok.bT (P := fun _ m' => ∃ N q sn, WoI r an c0 m1 N q sn N m') (Ok.loopT (S := Int32) (E := Unit) (fun k s m' => ∃ i N q sn, i + k = 101 ∧ s = nI i ∧ i ≤ N ∧ WoI r an c0 m1 N q sn i m') (fun k s m' hI => ?_) 101 _ _ ⟨0, 1, fun _ => c0, upN (fun _ => 0) c0 1, by omega, rfl, by omega, ?_, fun i hi => ⟨?_, hc⟩, fun x hx => ?_, u0, fun i hi => upN_eq, fun x hx h1 => ⟨0, by omega, ?_⟩, hsum0, fun i hi => by omega, fun U hU _ i hi => hU, upN_eq, ?_⟩) (fun _ _ q => Ok.pT q)
  · obtain ⟨i, N, q, sn, hk, rfl, hiN, I1, I2, I3, I4, I5, I6, I7, I8, I9, I10, I11⟩ := hI
    have hN100 : N ≤ 100 := by have := sum_le1 I4 100; omega
    by_cases hi : i < N
    · have hq := (I2 i hi).2
      simp (disch := omega) only [tq_I, tq_L, tq_sI, tq_sL, tq_lv, tq_pure, lvT, TM.bind_assoc, TM.pure_bind, TM.bind_pure, te_An, te_Bn, te_sAn, te_sBn, t_doors, t_hasn, t_isIn, t_of0, t_of1, t_of2, t_of3, t_of4, t_of5, t_of6, t_of7, lit, nI_add, nI_mul, nI_subn, le_t, le_f, lt_t, lt_f, eq_t, eq_f, eqm_f, ltz_f, cond_true, cond_false, if_true, if_false, I1]
      refine Ok.bT (P := fun _ m' => ∃ N' q' sn', N ≤ N' ∧ WoI r an c0 m1 N' q' sn' (i + 1) m') (Ok.loopT (S := Int32) (E := Unit) (fun w s m' => ∃ sd N' q' sn', sd + w = 4 ∧ s = nI sd ∧ N ≤ N' ∧ q' i = q i ∧ (∀ l, l < sd → okN r an (q i) l = true → sn' (tgt (q i) l) = 1) ∧ WoI r an c0 m1 N' q' sn' i m') (fun w s m' hI => ?_) 4 _ _ ⟨0, N, q, sn, by omega, rfl, Nat.le_refl _, rfl, fun l hl => by omega, I1, I2, I3, I4, I5, I6, I7, I8, I9, I10, I11⟩) (fun _ m2 ⟨N', q', sn', y1, y2⟩ => ?_)
      · obtain ⟨sd, N', q', sn', hw, rfl, hNN, eq', hl, J1, J2, J3, J4, J5, J6, J7, J8, J9, J10, J11⟩ := hI
        have hN' : N' ≤ 100 := by have := sum_le1 J4 100; omega
        have q50 : m'.2.2.1 50 i = nI (q i) := by rw [← eq']; exact (J2 i (by omega)).1
        have g14 : m'.2.2.1 14 = r := (J11.2.1 14 (by decide)).trans v1
        have g44 : m'.2.2.1 44 = m1.2.2.1 44 := J11.2.1 44 (by decide)
        by_cases h4 : sd < 4
        · obtain ⟨b1, b2, b3, b4⟩ := mvP_b hq h4
          have ex : nI (q i - q i / 10 * 10) + iZ (stX sd) = iZ (mvP (q i) sd).1 := by
            rw [iZ_nat, iZ_add]; exact congrArg iZ (by unfold mvP; dsimp only; omega)
          have ey : nI (q i / 10) + iZ (stY sd) = iZ (mvP (q i) sd).2 := by
            rw [iZ_nat, iZ_add]; exact congrArg iZ (by unfold mvP; dsimp only)
          have wk := isWalked_run ok g14 (q := mvP (q i) sd) ⟨b1, b2⟩ ⟨b3, b4⟩
          have skip : (okN r an (q i) sd = true → sn' (tgt (q i) sd) = 1) → ∃ w', w' < w ∧ ∃ sd2 N2 q2 sn2, sd2 + w' = 4 ∧ nI (sd + 1) = nI sd2 ∧ N ≤ N2 ∧ q2 i = q i ∧ (∀ l, l < sd2 → okN r an (q i) l = true → sn2 (tgt (q i) l) = 1) ∧ WoI r an c0 m1 N2 q2 sn2 i m' := fun hs => ⟨w - 1, by omega, sd + 1, N', q', sn', by omega, rfl, hNN, eq', fun l hl' hol => by
            by_cases z : l = sd
            · rw [z] at hol ⊢; exact hs hol
            · exact hl l (by omega) hol, J1, J2, J3, J4, J5, J6, J7, J8, J9, J10, J11⟩
          cases hin : inH r (mvP (q i) sd) with
          | false =>
            rw [hin, Bool.false_and] at wk
            simp (disch := omega) only [tq_I, tq_L, tq_sI, tq_sL, tq_lv, tq_pure, lvT, TM.bind_assoc, TM.pure_bind, TM.bind_pure, te_An, te_Bn, te_sAn, te_sBn, t_doors, t_hasn, t_isIn, t_of0, t_of1, t_of2, t_of3, t_of4, t_of5, t_of6, t_of7, lit, nI_add, nI_mul, nI_subn, le_t, le_f, lt_t, lt_f, eq_t, eq_f, eqm_f, ltz_f, cond_true, cond_false, if_true, if_false, q50, t_uX h4, t_uY h4, nI_divn, ex, ey, t_of wk]
            exact Ok.pT (skip (fun z => by unfold okN at z; rw [hin] at z; cases z))
          | true =>
            obtain ⟨i1, i2, i3, i4, i5, i6⟩ := inH_cell ok hin
            have ec : nI 10 * iZ (mvP (q i) sd).2 + iZ (mvP (q i) sd).1 = nI (tgt (q i) sd) := by unfold tgt; rw [i2, i3, i4, nI_mul, nI_add]
            have t100 : tgt (q i) sd < 100 := i1
            have l0 := LO_zero v4 hm t100
            rw [← g44] at l0
            have hokN : okN r an (q i) sd = (walkB r (tgt (q i) sd) && !lfB r an 10 (tgt (q i) sd)) := by unfold okN tgt; rw [hin]; rfl
            rw [hin, Bool.true_and] at wk
            have wk' : M_X10_isWalked (iZ (mvP (q i) sd).1) (iZ (mvP (q i) sd).2) m' = some (walkB r (tgt (q i) sd), m') := wk
            cases hw' : walkB r (tgt (q i) sd) with
            | false =>
              rw [hw'] at wk'
              simp (disch := omega) only [tq_I, tq_L, tq_sI, tq_sL, tq_lv, tq_pure, lvT, TM.bind_assoc, TM.pure_bind, TM.bind_pure, te_An, te_Bn, te_sAn, te_sBn, t_doors, t_hasn, t_isIn, t_of0, t_of1, t_of2, t_of3, t_of4, t_of5, t_of6, t_of7, lit, nI_add, nI_mul, nI_subn, le_t, le_f, lt_t, lt_f, eq_t, eq_f, eqm_f, ltz_f, cond_true, cond_false, if_true, if_false, q50, t_uX h4, t_uY h4, nI_divn, ex, ey, t_of wk']
              exact Ok.pT (skip (fun z => by rw [hokN, hw'] at z; cases z))
            | true =>
              rw [hw'] at wk'
              cases hlf : lfB r an 10 (tgt (q i) sd) with
              | true =>
                rw [hlf] at l0
                simp (disch := omega) only [tq_I, tq_L, tq_sI, tq_sL, tq_lv, tq_pure, lvT, TM.bind_assoc, TM.pure_bind, TM.bind_pure, te_An, te_Bn, te_sAn, te_sBn, t_doors, t_hasn, t_isIn, t_of0, t_of1, t_of2, t_of3, t_of4, t_of5, t_of6, t_of7, lit, nI_add, nI_mul, nI_subn, le_t, le_f, lt_t, lt_f, eq_t, eq_f, eqm_f, ltz_f, cond_true, cond_false, if_true, if_false, q50, t_uX h4, t_uY h4, nI_divn, ex, ey, t_of wk', ec, if_neg (fun z => Bool.noConfusion (l0.mp z))]
                exact Ok.pT (skip (fun z => by rw [hokN, hw', hlf] at z; cases z))
              | false =>
                rw [hlf] at l0
                have hok : okN r an (q i) sd = true := by rw [hokN, hw', hlf]; rfl
                by_cases hs : sn' (tgt (q i) sd) = 0
                · have g58 : m'.2.2.1 58 (tgt (q i) sd) = nI 0 := by rw [J3 _ t100, hs]
                  have hst := sum_turn (f := sn') (d := tgt (q i) sd) (v := 1) 100 t100
                  have s1le : ∀ x, upN sn' (tgt (q i) sd) 1 x ≤ 1 := fun x => by
                    by_cases z : x = tgt (q i) sd
                    · rw [z, upN_eq]; omega
                    · rw [upN_ne z]; exact J4 x
                  have s1up : ∀ x, sn' x = 1 → upN sn' (tgt (q i) sd) 1 x = 1 := fun x hx => by
                    by_cases z : x = tgt (q i) sd
                    · rw [z, upN_eq]
                    · rw [upN_ne z]; exact hx
                  have hN1 : N' + 1 ≤ 100 := by have := sum_le1 s1le 100; omega
                  simp (disch := omega) only [tq_I, tq_L, tq_sI, tq_sL, tq_lv, tq_pure, lvT, TM.bind_assoc, TM.pure_bind, TM.bind_pure, te_An, te_Bn, te_sAn, te_sBn, t_doors, t_hasn, t_isIn, t_of0, t_of1, t_of2, t_of3, t_of4, t_of5, t_of6, t_of7, lit, nI_add, nI_mul, nI_subn, le_t, le_f, lt_t, lt_f, eq_t, eq_f, eqm_f, ltz_f, cond_true, cond_false, if_true, if_false, uI_1, uI_2, uA_1, uA_21, uA_22, uA_3, uB_1, uB_21, uB_22, uB_3, uL_1, uL_21, uL_22, zI_1, zI_2, zR_1, zR_21, zR_22, zA_1, zA_21, zA_221, zA_222, zAA_1, zAA_21, zAA_221, zAA_222, zW_1, zW_21, zW_221, zW_2221, zW_2222, zL_1, zL_21, zL_221, zL_2221, zL_22221, zL_22222, va_eq, va_ne, q50, t_uX h4, t_uY h4, nI_divn, ex, ey, t_of wk', ec, if_pos (l0.mpr rfl), g58, J1]
                  refine Ok.pT ⟨w - 1, by omega, sd + 1, N' + 1, upN q' N' (tgt (q i) sd), upN sn' (tgt (q i) sd) 1, by omega, rfl, by omega, by rw [upN_ne (by omega)]; exact eq', fun l hl' hol => ?_, ?_, fun l hl' => ?_, fun x hx => ?_, s1le, fun l hl' => ?_, fun x hx h1 => ?_, by omega, fun l hl1 hl2 k hk hok' => ?_, fun U hU hcl l hl' => ?_, s1up _ J10, ?_⟩
                  · by_cases z : l = sd
                    · rw [z, upN_eq]
                    · exact s1up _ (hl l (by omega) hol)
                  · simp (disch := omega) only [uI_1, uI_2, uA_1, uA_21, uA_22, uA_3, uB_1, uB_21, uB_22, uB_3, uL_1, uL_21, uL_22, zI_1, zI_2, zR_1, zR_21, zR_22, zA_1, zA_21, zA_221, zA_222, zAA_1, zAA_21, zAA_221, zAA_222, zW_1, zW_21, zW_221, zW_2221, zW_2222, zL_1, zL_21, zL_221, zL_2221, zL_22221, zL_22222, va_eq, va_ne]
                  · simp (disch := omega) only [uI_1, uI_2, uA_1, uA_21, uA_22, uA_3, uB_1, uB_21, uB_22, uB_3, uL_1, uL_21, uL_22, zI_1, zI_2, zR_1, zR_21, zR_22, zA_1, zA_21, zA_221, zA_222, zAA_1, zAA_21, zAA_221, zAA_222, zW_1, zW_21, zW_221, zW_2221, zW_2222, zL_1, zL_21, zL_221, zL_2221, zL_22221, zL_22222, va_eq, va_ne]
                    by_cases z : l = N'
                    · rw [z, va_eq, upN_eq]; exact ⟨rfl, t100⟩
                    · rw [va_ne z, upN_ne z]; exact J2 l (by omega)
                  · simp (disch := omega) only [uI_1, uI_2, uA_1, uA_21, uA_22, uA_3, uB_1, uB_21, uB_22, uB_3, uL_1, uL_21, uL_22, zI_1, zI_2, zR_1, zR_21, zR_22, zA_1, zA_21, zA_221, zA_222, zAA_1, zAA_21, zAA_221, zAA_222, zW_1, zW_21, zW_221, zW_2221, zW_2222, zL_1, zL_21, zL_221, zL_2221, zL_22221, zL_22222, va_eq, va_ne]
                    by_cases z : x = tgt (q i) sd
                    · rw [z, va_eq, upN_eq]
                    · rw [va_ne z, upN_ne z]; exact J3 x hx
                  · by_cases z : l = N'
                    · rw [z, upN_eq, upN_eq]
                    · rw [upN_ne (e := l) z]; exact s1up _ (J5 l (by omega))
                  · by_cases z : x = tgt (q i) sd
                    · exact ⟨N', by omega, by rw [upN_eq, z]⟩
                    · rw [upN_ne z] at h1
                      obtain ⟨l, l1, l2⟩ := J6 x hx h1
                      exact ⟨l, by omega, by rw [upN_ne (by omega)]; exact l2⟩
                  · rw [upN_ne (show l ≠ N' by omega)] at hok' ⊢
                    exact s1up _ (J8 l hl1 (by omega) k hk hok')
                  · by_cases z : l = N'
                    · rw [z, upN_eq]
                      have := J9 U hU hcl i (by omega)
                      rw [eq'] at this
                      exact hcl (q i) hq this sd h4 hok
                    · rw [upN_ne z]; exact J9 U hU hcl l (by omega)
                  · exact ((J11.uA (by decide)).uA (by decide)).uI (by decide)
                · have hs1 : sn' (tgt (q i) sd) = 1 := by have := J4 (tgt (q i) sd); omega
                  have g58 : m'.2.2.1 58 (tgt (q i) sd) = nI 1 := by rw [J3 _ t100, hs1]
                  simp (disch := omega) only [tq_I, tq_L, tq_sI, tq_sL, tq_lv, tq_pure, lvT, TM.bind_assoc, TM.pure_bind, TM.bind_pure, te_An, te_Bn, te_sAn, te_sBn, t_doors, t_hasn, t_isIn, t_of0, t_of1, t_of2, t_of3, t_of4, t_of5, t_of6, t_of7, lit, nI_add, nI_mul, nI_subn, le_t, le_f, lt_t, lt_f, eq_t, eq_f, eqm_f, ltz_f, cond_true, cond_false, if_true, if_false, q50, t_uX h4, t_uY h4, nI_divn, ex, ey, t_of wk', ec, if_pos (l0.mpr rfl), g58]
                  exact Ok.pT (skip (fun _ => hs1))
        · simp (disch := omega) only [tq_I, tq_L, tq_sI, tq_sL, tq_lv, tq_pure, lvT, TM.bind_assoc, TM.pure_bind, TM.bind_pure, te_An, te_Bn, te_sAn, te_sBn, t_doors, t_hasn, t_isIn, t_of0, t_of1, t_of2, t_of3, t_of4, t_of5, t_of6, t_of7, lit, nI_add, nI_mul, nI_subn, le_t, le_f, lt_t, lt_f, eq_t, eq_f, eqm_f, ltz_f, cond_true, cond_false, if_true, if_false]
          have : sd = 4 := by omega
          subst this
          refine Ok.pT ⟨N', q', sn', hNN, J1, J2, J3, J4, J5, J6, J7, fun l h1 h2 k hk hok => ?_, J9, J10, J11⟩
          by_cases z : l = i
          · rw [z, eq'] at hok ⊢; exact hl k hk hok
          · exact J8 l (by omega) h2 k hk hok
      · simp (disch := omega) only [tq_I, tq_L, tq_sI, tq_sL, tq_lv, tq_pure, lvT, TM.bind_assoc, TM.pure_bind, TM.bind_pure, te_An, te_Bn, te_sAn, te_sBn, t_doors, t_hasn, t_isIn, t_of0, t_of1, t_of2, t_of3, t_of4, t_of5, t_of6, t_of7, lit, nI_add, nI_mul, nI_subn, le_t, le_f, lt_t, lt_f, eq_t, eq_f, eqm_f, ltz_f, cond_true, cond_false, if_true, if_false]
        exact Ok.pT ⟨k - 1, by omega, i + 1, N', q', sn', by omega, rfl, by omega, y2⟩
    · have : i = N := by omega
      subst this
      simp (disch := omega) only [tq_I, tq_L, tq_sI, tq_sL, tq_lv, tq_pure, lvT, TM.bind_assoc, TM.pure_bind, TM.bind_pure, te_An, te_Bn, te_sAn, te_sBn, t_doors, t_hasn, t_isIn, t_of0, t_of1, t_of2, t_of3, t_of4, t_of5, t_of6, t_of7, lit, nI_add, nI_mul, nI_subn, le_t, le_f, lt_t, lt_f, eq_t, eq_f, eqm_f, ltz_f, cond_true, cond_false, if_true, if_false, I1]
      exact Ok.pT ⟨i, q, sn, I1, I2, I3, I4, I5, I6, I7, I8, I9, I10, I11⟩
  · simp (disch := omega) only [uI_1, uI_2, uA_1, uA_21, uA_22, uA_3, uB_1, uB_21, uB_22, uB_3, uL_1, uL_21, uL_22, zI_1, zI_2, zR_1, zR_21, zR_22, zA_1, zA_21, zA_221, zA_222, zAA_1, zAA_21, zAA_221, zAA_222, zW_1, zW_21, zW_221, zW_2221, zW_2222, zL_1, zL_21, zL_221, zL_2221, zL_22221, zL_22222, va_eq, va_ne]
  · rw [show i = 0 by omega]; simp (disch := omega) only [uI_1, uI_2, uA_1, uA_21, uA_22, uA_3, uB_1, uB_21, uB_22, uB_3, uL_1, uL_21, uL_22, zI_1, zI_2, zR_1, zR_21, zR_22, zA_1, zA_21, zA_221, zA_222, zAA_1, zAA_21, zAA_221, zAA_222, zW_1, zW_21, zW_221, zW_2221, zW_2222, zL_1, zL_21, zL_221, zL_2221, zL_22221, zL_22222, va_eq, va_ne]
  · simp (disch := omega) only [uI_1, uI_2, uA_1, uA_21, uA_22, uA_3, uB_1, uB_21, uB_22, uB_3, uL_1, uL_21, uL_22, zI_1, zI_2, zR_1, zR_21, zR_22, zA_1, zA_21, zA_221, zA_222, zAA_1, zAA_21, zAA_221, zAA_222, zW_1, zW_21, zW_221, zW_2221, zW_2222, zL_1, zL_21, zL_221, zL_2221, zL_22221, zL_22222, va_eq, va_ne]
    by_cases z : x = c0
    · rw [z, va_eq, upN_eq]
    · rw [va_ne z, upN_ne z]; exact h58 x hx
  · apply Classical.byContradiction
    intro z
    rw [upN_ne (fun y => z y.symm)] at h1
    omega
  · exact ((sameB.rf.uA (by decide)).uI (by decide)).uA (by decide)
/-- those that are met are counted -/
theorem count_run {m : MS} {sn : Nat → Nat} (h1 : ∀ x, sn x ≤ 1) (h58 : ∀ x, x < 100 → m.2.2.1 58 x = nI (sn x)) : TM.loop (S := Int32 × Int32) (E := Int32) (fun s36 => if 100 ≤ s36.2 then TM.pure (Sum.inr s36.1) else TM.bind (tA 58 100 s36.2) (fun v40 => TM.bind ((if v40 = 0 then TM.pure s36.1 else TM.lv (s36.1 + 1) (fun v43 => TM.pure v43) : TM (Int32))) (fun u41 => TM.lv (s36.2 + 1) (fun v42 => TM.pure (Sum.inl (u41, v42)))))) (0, 0) m = some (nI (sumN sn 100), m) := by
  suffices h : Ok (TM.loop (S := Int32 × Int32) (E := Int32) (fun s36 => if 100 ≤ s36.2 then TM.pure (Sum.inr s36.1) else TM.bind (tA 58 100 s36.2) (fun v40 => TM.bind ((if v40 = 0 then TM.pure s36.1 else TM.lv (s36.1 + 1) (fun v43 => TM.pure v43) : TM (Int32))) (fun u41 => TM.lv (s36.2 + 1) (fun v42 => TM.pure (Sum.inl (u41, v42)))))) (0, 0) m) (fun v h' => v = nI (sumN sn 100) ∧ h' = m) by
    obtain ⟨v, h', e, rfl, rfl⟩ := h
    exact e
  refine Ok.forTs (S := Int32 × Int32) (fun i => (nI (sumN sn i), nI i)) 100 (fun i m' => m' = m) (i := 0) rfl (by omega) rfl (fun i m' hi hI => ?_) (fun m' hI => ?_)
  · subst hI
    have a := h58 i hi
    have b := h1 i
    dsimp only
    by_cases z : sn i = 0
    · rw [z] at a
      simp (disch := omega) only [tq_I, tq_L, tq_sI, tq_sL, tq_lv, tq_pure, lvT, TM.bind_assoc, TM.pure_bind, TM.bind_pure, te_An, te_Bn, te_sAn, te_sBn, t_doors, t_hasn, t_isIn, t_of0, t_of1, t_of2, t_of3, t_of4, t_of5, t_of6, t_of7, lit, nI_add, nI_mul, nI_subn, le_t, le_f, lt_t, lt_f, eq_t, eq_f, eqm_f, ltz_f, cond_true, cond_false, if_true, if_false, a]
      exact Ok.pT ⟨by show _ = (nI (sumN sn i + sn i), _); rw [z]; rfl, rfl⟩
    · have z1 : sn i = 1 := by omega
      rw [z1] at a
      simp (disch := omega) only [tq_I, tq_L, tq_sI, tq_sL, tq_lv, tq_pure, lvT, TM.bind_assoc, TM.pure_bind, TM.bind_pure, te_An, te_Bn, te_sAn, te_sBn, t_doors, t_hasn, t_isIn, t_of0, t_of1, t_of2, t_of3, t_of4, t_of5, t_of6, t_of7, lit, nI_add, nI_mul, nI_subn, le_t, le_f, lt_t, lt_f, eq_t, eq_f, eqm_f, ltz_f, cond_true, cond_false, if_true, if_false, a]
      exact Ok.pT ⟨by show _ = (nI (sumN sn i + sn i), _); rw [z1], rfl⟩
  · subst hI
    dsimp only
    simp (disch := omega) only [tq_I, tq_L, tq_sI, tq_sL, tq_lv, tq_pure, lvT, TM.bind_assoc, TM.pure_bind, TM.bind_pure, te_An, te_Bn, te_sAn, te_sBn, t_doors, t_hasn, t_isIn, t_of0, t_of1, t_of2, t_of3, t_of4, t_of5, t_of6, t_of7, lit, nI_add, nI_mul, nI_subn, le_t, le_f, lt_t, lt_f, eq_t, eq_f, eqm_f, ltz_f, cond_true, cond_false, if_true, if_false]
    exact Ok.pT ⟨rfl, rfl⟩
end
