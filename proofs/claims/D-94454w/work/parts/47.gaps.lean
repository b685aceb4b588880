set_option maxRecDepth 100000
theorem gap_gen {args : Array Value} {s : State} {C : String} {T : u_T} {N ci : Nat} {D : va_G} {tys : List (ClassId × FieldType)} (hts : ∀ w ∈ lw_all, w.before args s = true) (hin : ∀ w ∈ u_ws C T N, w ∈ lw_all) (ty : Nat → FieldType) (hty : ∀ k, k < N → parseFieldDescriptor (T k).2.2.1 = some (ty k)) (hnm : ∀ a, a < N → ∀ b, b < N → a ≠ b → (T a).2.1 ≠ (T b).2.1 ∨ ((T a).2.2.2 = true ∧ (T b).2.2.2 = true ∧ (T a).1 ≠ (T b).1)) (hK : va_K D gCl tys s) (hc : gCl[ci]? = some (C, T, N)) : ∀ x y, x < N → y < N → x ≠ y → (D.2 ci) x ≠ (D.2 ci) y := by
  intro x y hx hy hne
  obtain ⟨hS, -⟩ := hK.1 ci _ hc
  obtain ⟨ca, ka, ia, fa, hia, ea⟩ := hS x hx
  obtain ⟨cb, kb, ib, fb, hib, eb⟩ := hS y hy
  rw [← ea, ← eb]
  rcases hnm x hx y hy hne with h | ⟨h1, h2, h3⟩
  · refine u_apart (u_lays hts hin hx) (u_lays hts hin hy) hia hib ?_
    rw [(State.fieldFound?_type hia (hty x hx)).1, (State.fieldFound?_type hib (hty y hy)).1]
    exact h
  · intro hs
    obtain ⟨c1, q1, r1, g1, n1⟩ := gFld_laid (u_lays hts hin hx) hia
    obtain ⟨c2, q2, r2, g2, n2⟩ := gFld_laid (u_lays hts hin hy) hib
    cases r1.symm.trans r2
    rw [hs] at g1
    cases g1.symm.trans g2
    have e1 := gFin hts hin hx h1 _ _ _ _ hia
    have e2 := gFin hts hin hy h2 _ _ _ _ hib
    obtain ⟨k1, w1, w2⟩ := Vm.findClass_spec e1
    obtain ⟨k2, w3, w4⟩ := Vm.findClass_spec e2
    have v1 := (State.fieldFound?_spec hia).1
    have v2 := (State.fieldFound?_spec hib).1
    cases w1.symm.trans v1
    cases w3.symm.trans v2
    exact h3 (w2.symm.trans (n1.symm.trans (n2.trans w4)))
theorem gnm_X7 : ∀ a, a < 10 → ∀ b, b < 10 → a ≠ b → (TX7 a).2.1 ≠ (TX7 b).2.1 ∨ ((TX7 a).2.2.2 = true ∧ (TX7 b).2.2.2 = true ∧ (TX7 a).1 ≠ (TX7 b).1) := by decide +kernel
theorem gnm_X8 : ∀ a, a < 9 → ∀ b, b < 9 → a ≠ b → (TX8 a).2.1 ≠ (TX8 b).2.1 ∨ ((TX8 a).2.2.2 = true ∧ (TX8 b).2.2.2 = true ∧ (TX8 a).1 ≠ (TX8 b).1) := by decide +kernel
theorem gnm_X9 : ∀ a, a < 12 → ∀ b, b < 12 → a ≠ b → (TX9 a).2.1 ≠ (TX9 b).2.1 ∨ ((TX9 a).2.2.2 = true ∧ (TX9 b).2.2.2 = true ∧ (TX9 a).1 ≠ (TX9 b).1) := by decide +kernel
theorem gap_X7 {args : Array Value} {s : State} (hts : ∀ w ∈ lw_all, w.before args s = true) {D : va_G} {tys : List (ClassId × FieldType)} (hK : va_K D gCl tys s) : ∀ x y, x < 10 → y < 10 → x ≠ y → (D.2 5) x ≠ (D.2 5) y := gap_gen hts in_X7 tyX7 tyX7_ok gnm_X7 hK gCl_X7
theorem gap_X8 {args : Array Value} {s : State} (hts : ∀ w ∈ lw_all, w.before args s = true) {D : va_G} {tys : List (ClassId × FieldType)} (hK : va_K D gCl tys s) : ∀ x y, x < 9 → y < 9 → x ≠ y → (D.2 6) x ≠ (D.2 6) y := gap_gen hts in_X8 tyX8 tyX8_ok gnm_X8 hK gCl_X8
theorem gap_X9 {args : Array Value} {s : State} (hts : ∀ w ∈ lw_all, w.before args s = true) {D : va_G} {tys : List (ClassId × FieldType)} (hK : va_K D gCl tys s) : ∀ x y, x < 12 → y < 12 → x ≠ y → (D.2 7) x ≠ (D.2 7) y := gap_gen hts in_X9 tyX9 tyX9_ok gnm_X9 hK gCl_X9
