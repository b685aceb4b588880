set_option maxRecDepth 100000
/-- lists that are kept have changed, what is so now has not -/
theorem RelC.lists {n : Nat} {F : Fz} {g : gH} {xs xs' : XS} {ms ms' : MS} {I A J B C : List Nat} (R : RelC n F g xs ms) (S : sameX I A xs xs') (T : sameB J B C ms ms') (hI : ∀ k ∈ [1, 14], k ∉ I) (hA : ∀ k ∈ [0, 200, 201], k ∉ A) (hJ : ∀ k ∈ [2, 10, 22, 23], k ∉ J) (hB : ∀ k ∈ [1, 14, 17, 21], k ∉ B) (hC : ∀ k ∈ [18, 20], k ∉ C)
    (r8 : Rlist (xs'.1 24) (xs'.2.2.1 22) (ms'.1 38) (ms'.2.2.1 35) 10) (r9 : Rlist (xs'.1 25) (xs'.2.2.1 23) (ms'.1 37) (ms'.2.2.1 36) 10) (r10 : Rlist (xs'.1 31) (xs'.2.2.1 27) (ms'.1 42) (ms'.2.2.1 41) 10) (r11 : Rlist (xs'.1 39) (xs'.2.2.1 37) (ms'.1 57) (ms'.2.2.1 54) 24300) (r12 : ∀ i, i < (xs'.1 39).toNatClampNeg → ¬ xs'.2.2.1 37 i < 0) (r13 : Rjudged (xs'.1 33) (xs'.2.2.1 32) (ms'.2.2.1 48)) : RelC n F g xs' ms' := by
  obtain ⟨h1, h2, h3, h4⟩ := S
  obtain ⟨t1, t2, t3⟩ := T
  obtain ⟨q1, q2, q3, q4, q5, q6, q7, -⟩ := R
  have hr : eRow ms' = eRow ms := by funext i; unfold eRow; rw [t1 22 (hJ 22 (by decide)), t2 14 (hB 14 (by decide))]
  have hk : ∀ k, kRow ms' k = kRow ms k := fun k => by funext i; unfold kRow; rw [t2 17 (hB 17 (by decide))]
  refine ⟨?_, ?_, ?_, ?_, ?_, ?_, ?_, r8, r9, r10, r11, r12, r13⟩
  · unfold Rsys at q1 ⊢; rw [h4]; exact q1
  · rw [h1 1 (hI 1 (by decide)), h3 0 (hA 0 (by decide)), t1 2 (hJ 2 (by decide)), t2 1 (hB 1 (by decide))]; exact q2
  · rw [h1 14 (hI 14 (by decide)), t1 10 (hJ 10 (by decide))]; exact q3
  · rw [h4, t1 23 (hJ 23 (by decide))]; exact q4
  · rw [t1 22 (hJ 22 (by decide))]; exact q5
  · rw [h2, h4, h3 200 (hA 200 (by decide)), h3 201 (hA 201 (by decide)), hr, t3 18 (hC 18 (by decide))]; exact q6
  · intro k hk2; rw [h4, hk, t3 20 (hC 20 (by decide)), t2 21 (hB 21 (by decide))]; exact q7 k hk2
theorem x_cpyL {ax : Nat} {g : gH} {xs : XS} {β : Type} {f : Unit → Mo β} : (Mo.bind (cpyI (ax + 27) (nI 0) (ax + 30) (nI 0) (nI 10)) f).1 (mkX ax g xs) = (f ()).1 (mkX ax g (zAA xs 21 (va_cpy (xs.2.2.1 15) (xs.2.2.1 21) 0 0 10))) := by
  have e : (cpyI (ax + 27) (nI 0) (ax + 30) (nI 0) (nI 10)).1 (mkX ax g xs) = some ((), (va_up (mkX ax g xs).1 (ax + 30) (.inl (0, 10, .inl (va_cpy (xs.2.2.1 15) (xs.2.2.1 21) 0 0 10))), (mkX ax g xs).2)) := by
    unfold cpyI Mo.wr
    simp only [x_at27, x_at30]
    rfl
  rw [ev_call e]
  exact congrArg (f ()).1 (mkX_up (o := 30) (fun d => rfl) (fun d o' ho => by unfold xCell; split <;> first | rfl | exact absurd rfl ho))
/-- what is forced so far -/
def Fo (r : Row) (d S : Nat) (l : Nat → Nat) (f f' : Nat → Int32) : Prop := ∀ e, e < rN r 2 → (S.testBit e = false ∧ f e = -nI 1 ∧ f' e = -nI 1) ∨ (S.testBit e = true ∧ ∃ g, g < 4 ∧ f e = nI g ∧ f' e = nI g ∧ l e = 2 ^ g ∧ ∀ k, k < rN r 2 → k ≠ d → k ≠ e → andn (l k) (pm (biteR r e g k) 4) = l k)
def deadP (d : Nat) (l : Nat → Nat) (e : Nat) : Bool := decide (e ≠ d) && decide (l e = 0)
def FoI (n : Nat) (G : gH) (r : Row) (xs : XS) (m1 : MS) (d : Nat) (dead st : Int32) (h : gH) (st' : Int32) (m : MS) (c : Nat) : Prop := ∃ (xs' : XS) (S : Nat) (l : Nat → Nat), h = mkX n G xs' ∧ st = nI S ∧ st' = nI S ∧ S < 1024 ∧ (∀ e, S.testBit e = true → e < rN r 2 ∧ e ≠ d) ∧ pop S = c ∧ xs'.1 25 = nI c ∧ m.1 37 = nI c ∧ (∀ i, i < c → xs'.2.2.1 23 i = m.2.2.1 36 i) ∧ (∀ e, e < rN r 2 → xs'.2.2.1 21 e = nI (l e) ∧ m.2.2.1 34 e = nI (l e) ∧ l e < 16) ∧ Fo r d S l (xs'.2.2.1 22) (m.2.2.1 35) ∧ isLeast (deadP d l) 0 (rN r 2) dead ∧ sameX [24, 25] [15, 21, 22, 23] xs xs' ∧ xs'.1 24 = nI (rN r 2) ∧ sameB [26, 37, 38] [24, 25, 29, 34, 35, 36] [27, 28] m1 m ∧ m.1 38 = nI (rN r 2) ∧ swOk m r (rN r 2)
theorem testBit_or {S e : Nat} (k : Nat) : (S ||| 2 ^ e).testBit k = (S.testBit k || decide (k = e)) := by
  rw [Nat.testBit_or, Nat.testBit_two_pow]
  congr 1
  by_cases z : k = e
  · simp [z]
  · simp [z]; omega
theorem Fo_c {r : Row} (ok : okRow r) {d S : Nat} (hd : d < rN r 2) (hS : S < 1024) (hb : ∀ e, S.testBit e = true → e < rN r 2 ∧ e ≠ d) : pop S ≤ 9 := by
  have hm := ok.2.2.1.2
  have h0 : S.testBit d = false := by
    cases z : S.testBit d with
    | false => rfl
    | true => exact absurd rfl (hb d z).2
  have h1 := pop_or hS (show d < 10 by omega) h0
  have h2 := pop_le 10 _ (or_lt hS (show d < 10 by omega))
  omega
set_option maxHeartbeats 4000000 in
theorem force_step {n : Nat} {F : Fz} {G : gH} {ho : Nat} {r : Row} {nm : Nat → Int64} (Z : FrzX n F G) (H : IsHouse F ho r nm) (ok : okRow r) {xs : XS} {m1 : MS} (e1 : xs.2.1 200 = some ho) (hr : m1.2.2.1 14 = r) {d S e : Nat} (hd : d < rN r 2) {l : Nat → Nat} {xs' : XS} {m : MS} (hS : S < 1024) (hb : ∀ e, S.testBit e = true → e < rN r 2 ∧ e ≠ d) (c1 : xs'.1 25 = nI (pop S)) (c2 : m.1 37 = nI (pop S)) (c3 : ∀ i, i < pop S → xs'.2.2.1 23 i = m.2.2.1 36 i) (hl : ∀ e, e < rN r 2 → xs'.2.2.1 21 e = nI (l e) ∧ m.2.2.1 34 e = nI (l e) ∧ l e < 16) (hF : Fo r d S l (xs'.2.2.1 22) (m.2.2.1 35)) (E1 : sameX [24, 25] [15, 21, 22, 23] xs xs') (k24 : xs'.1 24 = nI (rN r 2)) (E2 : sameB [26, 37, 38] [24, 25, 29, 34, 35, 36] [27, 28] m1 m) (k38 : m.1 38 = nI (rN r 2)) (W : swOk m r (rN r 2)) (he : e < rN r 2) (hed : e ≠ d) (heS : S.testBit e = false) {g : Nat} (hg : g < 4) (hlg : l e = 2 ^ g) :
    Two ((M_X1_bitesAway n (nI e) (nI g) (nI d)).1 (mkX n G (zI (zA (zA xs' 22 e (nI g)) 23 (pop S) (nI e)) 25 (nI (pop S + 1))))) (M_X10_drop (nI e) (nI g) (nI d) (uI (uA (uA m 35 e (nI g)) 36 (pop S) (nI e)) 37 (nI (pop S + 1)))) (fun v h' _ m' => FoI n G r xs m1 d v (nI (S ||| 2 ^ e)) h' (nI (S ||| 2 ^ e)) m' (pop S + 1)) := by
  have hm := ok.2.2.1.2
  have hc9 := Fo_c ok hd hS hb
  generalize hxs : zI (zA (zA xs' 22 e (nI g)) 23 (pop S) (nI e)) 25 (nI (pop S + 1)) = ys
  generalize hms : uI (uA (uA m 35 e (nI g)) 36 (pop S) (nI e)) 37 (nI (pop S + 1)) = ym
  have EX : sameX [24, 25] [15, 21, 22, 23] xs ys := by rw [← hxs]; exact ((E1.zA (by decide)).zA (by decide)).zI (by decide)
  have EM : sameB [26, 37, 38] [24, 25, 29, 34, 35, 36] [27, 28] m1 ym := by rw [← hms]; exact ((E2.uA (by decide)).uA (by decide)).uI (by decide)
  have y21 : ys.2.2.1 21 = xs'.2.2.1 21 := by rw [← hxs]; simp (disch := omega) only [uI_1, uI_2, uA_1, uA_21, uA_22, uA_3, uB_1, uB_21, uB_22, uB_3, uL_1, uL_21, uL_22, zI_1, zI_2, zR_1, zR_21, zR_22, zA_1, zA_21, zA_221, zA_222, zAA_1, zAA_21, zAA_221, zAA_222, zW_1, zW_21, zW_221, zW_2221, zW_2222, zL_1, zL_21, zL_221, zL_2221, zL_22221, zL_22222, va_eq, va_ne]
  have y22 : ∀ f, ys.2.2.1 22 f = if f = e then nI g else xs'.2.2.1 22 f := fun f => by
    rw [← hxs]; simp (disch := omega) only [uI_1, uI_2, uA_1, uA_21, uA_22, uA_3, uB_1, uB_21, uB_22, uB_3, uL_1, uL_21, uL_22, zI_1, zI_2, zR_1, zR_21, zR_22, zA_1, zA_21, zA_221, zA_222, zAA_1, zAA_21, zAA_221, zAA_222, zW_1, zW_21, zW_221, zW_2221, zW_2222, zL_1, zL_21, zL_221, zL_2221, zL_22221, zL_22222, va_eq, va_ne]; by_cases z : f = e
    · rw [z, va_eq, if_pos rfl]
    · rw [va_ne z, if_neg z]
  have n34 : ym.2.2.1 34 = m.2.2.1 34 := by rw [← hms]; simp (disch := omega) only [uI_1, uI_2, uA_1, uA_21, uA_22, uA_3, uB_1, uB_21, uB_22, uB_3, uL_1, uL_21, uL_22, zI_1, zI_2, zR_1, zR_21, zR_22, zA_1, zA_21, zA_221, zA_222, zAA_1, zAA_21, zAA_221, zAA_222, zW_1, zW_21, zW_221, zW_2221, zW_2222, zL_1, zL_21, zL_221, zL_2221, zL_22221, zL_22222, va_eq, va_ne]
  have n35 : ∀ f, ym.2.2.1 35 f = if f = e then nI g else m.2.2.1 35 f := fun f => by
    rw [← hms]; simp (disch := omega) only [uI_1, uI_2, uA_1, uA_21, uA_22, uA_3, uB_1, uB_21, uB_22, uB_3, uL_1, uL_21, uL_22, zI_1, zI_2, zR_1, zR_21, zR_22, zA_1, zA_21, zA_221, zA_222, zAA_1, zAA_21, zAA_221, zAA_222, zW_1, zW_21, zW_221, zW_2221, zW_2222, zL_1, zL_21, zL_221, zL_2221, zL_22221, zL_22222, va_eq, va_ne]; by_cases z : f = e
    · rw [z, va_eq, if_pos rfl]
    · rw [va_ne z, if_neg z]
  have hW : swOk ym r (rN r 2) := by
    rw [← hms]
    exact W
  have hr2 : ym.2.2.1 14 = r := (EM.2.1 14 (by decide)).trans hr
  have yl : ∀ f, f < rN r 2 → ys.2.2.1 21 f = nI (l f) ∧ l f < 16 := fun f hf => by rw [y21]; exact ⟨(hl f hf).1, (hl f hf).2.2⟩
  have nl : ∀ f, f < rN r 2 → ym.2.2.1 34 f = nI (l f) ∧ l f < 16 := fun f hf => by rw [n34]; exact ⟨(hl f hf).2.1, (hl f hf).2.2⟩
  have tb := fun k => testBit_or (S := S) (e := e) k
  have hfr : ∀ f, f < rN r 2 → ((S ||| 2 ^ e).testBit f = true ∧ ∃ g, g < 4 ∧ ys.2.2.1 22 f = nI g) ∨ ((S ||| 2 ^ e).testBit f = false ∧ ys.2.2.1 22 f = -nI 1) := fun f hf => by
    rw [y22 f, tb f]
    by_cases z : f = e
    · rw [if_pos z]; exact Or.inl ⟨by simp [z], g, hg, rfl⟩
    · rw [if_neg z]
      rcases hF f hf with ⟨a1, a2, a3⟩ | ⟨a1, g', a2, a3, -⟩
      · exact Or.inr ⟨by simp [z, a1], a2⟩
      · exact Or.inl ⟨by simp [a1], g', a2, a3⟩
  -- those that were forced stay as they are
  have stay : ∀ f, f < rN r 2 → f ≠ e → S.testBit f = true → andn (l f) (pm (biteR r e g f) 4) = l f := fun f hf hfe hfS => by
    rcases hF f hf with ⟨a1, -⟩ | ⟨a1, g', a2, a3, a4, a5, a6⟩
    · rw [a1] at hfS; cases hfS
    · have h1 := a6 e he hed (Ne.symm hfe)
      rw [hlg] at h1
      have h2 := pm_is hg h1
      rw [a5]
      exact pm_not a2 (by rw [biteR_comm]; exact h2)
  have same : ∀ f, f < rN r 2 → awayN r e g d (fun f => (S ||| 2 ^ e).testBit f) l f = if f = e ∨ f = d then l f else andn (l f) (pm (biteR r e g f) 4) := fun f hf => by
    unfold awayN
    by_cases z : f = e ∨ f = d
    · rw [if_pos z, if_pos (by rcases z with z | z <;> simp [z])]
    · have z1 : f ≠ e := fun y => z (Or.inl y)
      have z2 : f ≠ d := fun y => z (Or.inr y)
      rw [if_neg z]
      cases y : S.testBit f with
      | true => rw [if_pos (Or.inr (Or.inr (by show (S ||| 2 ^ e).testBit f = true; rw [tb f, y]; rfl)))]; exact (stay f hf z1 y).symm
      | false => rw [if_neg (fun w => by
          rcases w with w | w | w
          · exact z2 w
          · exact z1 w
          · have : (S ||| 2 ^ e).testBit f = true := w
            rw [tb f, y] at this
            simp [z1] at this)]
  refine Two.ok (away_run Z H ok (by rw [EX.2.1]; exact e1) he hg hd yl hfr) (drop_run ok hr2 hW he hg hd nl) fun v h' _ m' ⟨xs2, q1, q2, q3, q4⟩ ⟨p1, p2⟩ => ?_
  subst q1
  have EX2 : sameX [24, 25] [15, 21, 22, 23] xs xs2 := EX.tr (q2.up (by decide) (by decide))
  have EM2 : sameB [26, 37, 38] [24, 25, 29, 34, 35, 36] [27, 28] m1 m' := EM.tr (p1.up (by decide) (by decide) (by decide))
  have al : ∀ f, f < rN r 2 → awayN r e g d (fun f => (S ||| 2 ^ e).testBit f) l f < 16 := fun f hf => by
    rw [same f hf]; split
    · exact (hl f hf).2.2
    · exact andn_lt _ (hl f hf).2.2
  refine ⟨xs2, S ||| 2 ^ e, awayN r e g d (fun f => (S ||| 2 ^ e).testBit f) l, rfl, rfl, rfl, or_lt hS (by omega), fun f hf => ?_, pop_or hS (by omega) heS, ?_, ?_, fun i hi => ?_, fun f hf => ⟨q3 f hf, by rw [p2 f hf, same f hf], al f hf⟩, ?_, q4, EX2, ?_, EM2, ?_, ?_⟩
  · rw [tb f] at hf
    by_cases z : f = e
    · rw [z]; exact ⟨he, hed⟩
    · simp only [z, decide_false, Bool.or_false] at hf; exact hb f hf
  · rw [q2.1 25 (by decide), ← hxs]; simp (disch := omega) only [uI_1, uI_2, uA_1, uA_21, uA_22, uA_3, uB_1, uB_21, uB_22, uB_3, uL_1, uL_21, uL_22, zI_1, zI_2, zR_1, zR_21, zR_22, zA_1, zA_21, zA_221, zA_222, zAA_1, zAA_21, zAA_221, zAA_222, zW_1, zW_21, zW_221, zW_2221, zW_2222, zL_1, zL_21, zL_221, zL_2221, zL_22221, zL_22222, va_eq, va_ne]
  · rw [p1.1 37 (by decide), ← hms]; simp (disch := omega) only [uI_1, uI_2, uA_1, uA_21, uA_22, uA_3, uB_1, uB_21, uB_22, uB_3, uL_1, uL_21, uL_22, zI_1, zI_2, zR_1, zR_21, zR_22, zA_1, zA_21, zA_221, zA_222, zAA_1, zAA_21, zAA_221, zAA_222, zW_1, zW_21, zW_221, zW_2221, zW_2222, zL_1, zL_21, zL_221, zL_2221, zL_22221, zL_22222, va_eq, va_ne]
  · rw [q2.2.2.1 23 (by decide), p1.2.1 36 (by decide), ← hxs, ← hms]; simp (disch := omega) only [uI_1, uI_2, uA_1, uA_21, uA_22, uA_3, uB_1, uB_21, uB_22, uB_3, uL_1, uL_21, uL_22, zI_1, zI_2, zR_1, zR_21, zR_22, zA_1, zA_21, zA_221, zA_222, zAA_1, zAA_21, zAA_221, zAA_222, zW_1, zW_21, zW_221, zW_2221, zW_2222, zL_1, zL_21, zL_221, zL_2221, zL_22221, zL_22222, va_eq, va_ne]
    by_cases z : i = pop S
    · rw [z, va_eq, va_eq]
    · rw [va_ne z, va_ne z]; exact c3 i (by omega)
  · intro f hf
    rw [q2.2.2.1 22 (by decide), p1.2.1 35 (by decide), y22 f, n35 f, tb f]
    by_cases z : f = e
    · rw [if_pos z, if_pos z]
      refine Or.inr ⟨by simp [z], g, hg, rfl, rfl, by rw [same f hf, if_pos (Or.inl z), z, hlg], fun k hk hkd hkf => ?_⟩
      rw [same k hk, z] at *
      by_cases y : k = e ∨ k = d
      · rcases y with y | y
        · exact absurd y hkf
        · exact absurd y hkd
      · rw [if_neg y]; exact andn_idem _ _
    · rw [if_neg z, if_neg z]
      rcases hF f hf with ⟨a1, a2, a3⟩ | ⟨a1, g', a2, a3, a4, a5, a6⟩
      · exact Or.inl ⟨by simp [z, a1], a2, a3⟩
      · refine Or.inr ⟨by simp [a1], g', a2, a3, a4, ?_, fun k hk hkd hkf => ?_⟩
        · rw [same f hf]
          by_cases y : f = e ∨ f = d
          · rw [if_pos y]; exact a5
          · rw [if_neg y, stay f hf z a1]; exact a5
        · rw [same k hk]
          by_cases y : k = e ∨ k = d
          · rw [if_pos y]; exact a6 k hk hkd hkf
          · rw [if_neg y]; exact andn_keep _ (a6 k hk hkd hkf)
  · rw [q2.1 24 (by decide), ← hxs]; simp (disch := omega) only [uI_1, uI_2, uA_1, uA_21, uA_22, uA_3, uB_1, uB_21, uB_22, uB_3, uL_1, uL_21, uL_22, zI_1, zI_2, zR_1, zR_21, zR_22, zA_1, zA_21, zA_221, zA_222, zAA_1, zAA_21, zAA_221, zAA_222, zW_1, zW_21, zW_221, zW_2221, zW_2222, zL_1, zL_21, zL_221, zL_2221, zL_22221, zL_22222, va_eq, va_ne]; exact k24
  · rw [p1.1 38 (by decide), ← hms]; simp (disch := omega) only [uI_1, uI_2, uA_1, uA_21, uA_22, uA_3, uB_1, uB_21, uB_22, uB_3, uL_1, uL_21, uL_22, zI_1, zI_2, zR_1, zR_21, zR_22, zA_1, zA_21, zA_221, zA_222, zAA_1, zAA_21, zAA_221, zAA_222, zW_1, zW_21, zW_221, zW_2221, zW_2222, zL_1, zL_21, zL_221, zL_2221, zL_22221, zL_22222, va_eq, va_ne]; exact k38
  · exact ⟨fun f hf => by rw [p1.2.1 29 (by decide)]; exact hW.1 f hf, fun f k hf hk => by rw [p1.2.2 27 (by decide), p1.2.2 28 (by decide)]; exact hW.2 f k hf hk⟩
