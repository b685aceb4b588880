set_option maxRecDepth 100000
/-! ===== the start ===== -/
theorem st_all {α : Type} {P : α → Prop} : ∀ {l : List α}, (∀ k (h : k < l.length), P l[k]) → ∀ q ∈ l, P q := by
  intro l h q hq
  obtain ⟨k, hk, e⟩ := List.mem_iff_getElem.mp hq
  rw [← e]
  exact h k hk
theorem selects_priv {C : String} {x y : MethodName} {s : State} {args : Array Value} {n : Nat} (hy : y.cls ≠ "java/lang/invoke/MethodHandle" ∧ y.cls ≠ "java/lang/invoke/VarHandle")
    (hins : (Cond.instantiable C n).before args s = true) (hpriv : (Cond.privateMethod y).before args s = true) (hinst : (Cond.instanceMethod y).before args s = true) (hx : (Cond.selects C x x).before args s = true) (hxy : x.cls = y.cls) :
    (Cond.selects C y y).before args s = true := by
  obtain ⟨c, k, hc, hk, -, -, -, -⟩ := Cond.instantiable_spec hins
  obtain ⟨mk, methM, hnamed, hmethM, -, -⟩ := Cond.instanceMethod_spec hinst
  have hfound : s.methodFound? y.cls y.name y.desc = some mk := State.methodFound?_of_named hnamed hy
  have hsel : selectMethod {} s.vm c mk = .method mk := selectMethod_private hmethM (Cond.privateMethod_at hpriv mk methM hnamed hmethM)
  obtain ⟨c2, r2, m2, -, -, q3, -, kP, hkP, hkPi⟩ := Cond.selects_spec hx
  have e1 := findClass_of_methodNamed hnamed
  have e2 := findClass_of_methodNamed q3
  rw [hxy] at e2
  have e3 : mk.cls = m2.cls := Option.some.inj (e1.symm.trans e2)
  simp only [Cond.before, Cond.holds, Cond.value, hc, hfound, hnamed, hsel, e3, hkP]
  simp
  exact hkPi
theorem st_prim {s : State} {args : Array Value} {ty : FieldType} (h : (Cond.arrayClass ty).before args s = true) (hty : ∀ c, s.vm.findClass ("[" ++ ty.toString) = some c → va_RA s c ty) : ∃ c, ArrOfT s c ty ∧ va_RA s c ty := by
  obtain ⟨c, k, comp, h1, h2, h3⟩ := Cond.arrayClass_spec h
  exact ⟨c, fun n z => ⟨fun _ e => (by cases e), k, h2, comp, h3⟩, hty c h1⟩
theorem st_obj {s : State} {args : Array Value} {C : String} (h : (Cond.arrayOver (.object C)).before args s = true) : ∃ c, ArrOfT s c (.object C) ∧ va_RA s c (.object C) := by
  obtain ⟨comp, c, k, h1, -, h3, h4, h5⟩ := Cond.arrayOver_spec h
  exact ⟨c, fun n z => ⟨fun _ e => (by cases e), k, h3, comp, h4⟩, k, comp, h3, h4, h1, h5⟩
theorem st_zs {s : State} {args : Array Value} {n d : String} {A : Nat → Prop} (h1 : (Cond.laysStatic "java/lang/Throwable" n d).before args s = true) (h2 : (Cond.isRef (.static "java/lang/Throwable" n d)).before args s = true) (hA : ∀ a : Nat, a < s.heap.size → ¬ A a) : gZs n d A s s.heap := by
  obtain ⟨c, k, i, f, a, cell, hc, hi, hst, ha, hcell, hs, hcls, hlt, hty⟩ := Cond.laysStatic_spec h1
  cases hv : (Term.static "java/lang/Throwable" n d).eval args s none [] s with
  | none => simp [Cond.before, Cond.holds, Cond.value, hv] at h2
  | some w =>
    obtain ⟨-, a', cell', ha', hcell', -, hslot⟩ := Term.static_spec hi hv
    cases ha.symm.trans ha'
    cases hcell.symm.trans hcell'
    refine ⟨c, k, i, f, a, cell, w, hc, hi, hst, ha, hcell, hs, hcls, hlt, hty, hslot, ?_, hA a (Array.getElem?_eq_some_iff.mp hcell).1⟩
    simp only [Cond.before, Cond.holds, Cond.value, hv] at h2
    cases w <;> simp_all [Value.isRef]
theorem gNF_in : ∀ q ∈ gNF, Cond.fieldLinkNest q.1 q.2.1 q.2.2.1 q.2.2.2.1 q.2.2.2.2.1 q.2.2.2.2.2 ∈ lw_tbl := List.forall_mem_cons.mpr ⟨q267, List.forall_mem_cons.mpr ⟨q277, List.forall_mem_cons.mpr ⟨q282, List.forall_mem_cons.mpr ⟨q285, List.forall_mem_cons.mpr ⟨q289, List.forall_mem_cons.mpr ⟨q293, List.forall_mem_cons.mpr ⟨q297, List.forall_mem_cons.mpr ⟨q325, List.forall_mem_cons.mpr ⟨q331, List.forall_mem_cons.mpr ⟨q336, List.forall_mem_cons.mpr ⟨q340, List.forall_mem_cons.mpr ⟨q342, List.forall_mem_cons.mpr ⟨q344, List.forall_mem_cons.mpr ⟨q368, List.forall_mem_cons.mpr ⟨q370, List.forall_mem_cons.mpr ⟨q468, List.forall_mem_cons.mpr ⟨q842, List.forall_mem_cons.mpr ⟨q844, List.forall_mem_cons.mpr ⟨q847, List.forall_mem_cons.mpr ⟨q849, List.forall_mem_cons.mpr ⟨q854, List.forall_mem_cons.mpr ⟨q856, List.forall_mem_cons.mpr ⟨q861, List.forall_mem_cons.mpr ⟨q865, List.forall_mem_cons.mpr ⟨q868, List.forall_mem_cons.mpr ⟨q270, List.forall_mem_cons.mpr ⟨q274, List.forall_mem_cons.mpr ⟨q286, List.forall_mem_cons.mpr ⟨q292, List.forall_mem_cons.mpr ⟨q296, List.forall_mem_cons.mpr ⟨q857, List.forall_mem_cons.mpr ⟨q1305, List.forall_mem_cons.mpr ⟨q1307, List.forall_mem_cons.mpr ⟨q853, List.forall_mem_cons.mpr ⟨q860, List.forall_mem_cons.mpr ⟨q943, List.forall_mem_cons.mpr ⟨q278, List.forall_mem_cons.mpr ⟨q290, List.forall_mem_cons.mpr ⟨q493, List.forall_mem_cons.mpr ⟨q496, List.forall_mem_cons.mpr ⟨q499, List.forall_mem_cons.mpr ⟨q501, List.forall_mem_cons.mpr ⟨q840, List.forall_mem_cons.mpr ⟨q266, List.forall_mem_cons.mpr ⟨q269, List.forall_mem_cons.mpr ⟨q276, List.forall_mem_cons.mpr ⟨q281, List.forall_mem_cons.mpr ⟨q284, List.forall_mem_cons.mpr ⟨q287, List.forall_mem_cons.mpr ⟨q291, List.forall_mem_cons.mpr ⟨q295, List.forall_mem_cons.mpr ⟨q494, List.forall_mem_cons.mpr ⟨q503, List.forall_mem_cons.mpr ⟨q858, List.forall_mem_cons.mpr ⟨q859, List.forall_mem_cons.mpr ⟨q864, List.forall_mem_cons.mpr ⟨q867, List.forall_mem_cons.mpr ⟨q323, List.forall_mem_cons.mpr ⟨q367, List.forall_mem_cons.mpr ⟨q369, List.forall_mem_cons.mpr ⟨q505, List.forall_mem_cons.mpr ⟨q507, List.forall_mem_cons.mpr ⟨q509, List.forall_mem_cons.mpr ⟨q324, List.forall_mem_cons.mpr ⟨q510, List.forall_mem_cons.mpr ⟨q335, List.forall_mem_cons.mpr ⟨q339, List.forall_mem_cons.mpr ⟨q272, List.forall_mem_cons.mpr ⟨q319, List.forall_mem_cons.mpr ⟨q327, List.forall_mem_cons.mpr ⟨q321, List.forall_mem_cons.mpr ⟨q328, List.forall_mem_cons.mpr ⟨q275, List.forall_mem_cons.mpr ⟨q322, List.forall_mem_cons.mpr ⟨q329, List.forall_mem_cons.mpr ⟨q333, List.forall_mem_cons.mpr ⟨q338, List.forall_mem_cons.mpr ⟨q273, List.forall_mem_cons.mpr ⟨q320, List.forall_mem_cons.mpr ⟨q330, List.forall_mem_cons.mpr ⟨q334, List.forall_mem_cons.mpr ⟨q846, List.forall_mem_cons.mpr ⟨q852, List.forall_mem_cons.mpr ⟨q863, List.forall_mem_cons.mpr ⟨q938, (fun _ h => by cases h)⟩⟩⟩⟩⟩⟩⟩⟩⟩⟩⟩⟩⟩⟩⟩⟩⟩⟩⟩⟩⟩⟩⟩⟩⟩⟩⟩⟩⟩⟩⟩⟩⟩⟩⟩⟩⟩⟩⟩⟩⟩⟩⟩⟩⟩⟩⟩⟩⟩⟩⟩⟩⟩⟩⟩⟩⟩⟩⟩⟩⟩⟩⟩⟩⟩⟩⟩⟩⟩⟩⟩⟩⟩⟩⟩⟩⟩⟩⟩⟩⟩⟩⟩⟩⟩
theorem gNM_in : ∀ q ∈ gNM, Cond.methodLinkNest q.1 q.2.1 q.2.2.1 q.2.2.2 ∈ lw_tbl := List.forall_mem_cons.mpr ⟨q253, List.forall_mem_cons.mpr ⟨q360, List.forall_mem_cons.mpr ⟨q1322, List.forall_mem_cons.mpr ⟨q830, List.forall_mem_cons.mpr ⟨q1006, List.forall_mem_cons.mpr ⟨q1180, List.forall_mem_cons.mpr ⟨q687, List.forall_mem_cons.mpr ⟨q821, List.forall_mem_cons.mpr ⟨q894, List.forall_mem_cons.mpr ⟨q898, List.forall_mem_cons.mpr ⟨q1024, List.forall_mem_cons.mpr ⟨q933, List.forall_mem_cons.mpr ⟨q991, List.forall_mem_cons.mpr ⟨q1145, List.forall_mem_cons.mpr ⟨q963, List.forall_mem_cons.mpr ⟨q1049, List.forall_mem_cons.mpr ⟨q1076, List.forall_mem_cons.mpr ⟨q1098, List.forall_mem_cons.mpr ⟨q1478, List.forall_mem_cons.mpr ⟨q1497, List.forall_mem_cons.mpr ⟨q1574, List.forall_mem_cons.mpr ⟨q1507, List.forall_mem_cons.mpr ⟨q1521, List.forall_mem_cons.mpr ⟨q1538, List.forall_mem_cons.mpr ⟨q1552, (fun _ h => by cases h)⟩⟩⟩⟩⟩⟩⟩⟩⟩⟩⟩⟩⟩⟩⟩⟩⟩⟩⟩⟩⟩⟩⟩⟩⟩
theorem gNC_in : ∀ q ∈ gNC, Cond.castable q.1 q.2 ∈ lw_tbl := List.forall_mem_cons.mpr ⟨q2387, List.forall_mem_cons.mpr ⟨q2388, List.forall_mem_cons.mpr ⟨q1623, List.forall_mem_cons.mpr ⟨q2376, List.forall_mem_cons.mpr ⟨q2365, List.forall_mem_cons.mpr ⟨q156, List.forall_mem_cons.mpr ⟨q2366, List.forall_mem_cons.mpr ⟨q2367, List.forall_mem_cons.mpr ⟨q2368, List.forall_mem_cons.mpr ⟨q2369, List.forall_mem_cons.mpr ⟨q2370, List.forall_mem_cons.mpr ⟨q2371, List.forall_mem_cons.mpr ⟨q2372, List.forall_mem_cons.mpr ⟨q2373, List.forall_mem_cons.mpr ⟨q2374, List.forall_mem_cons.mpr ⟨q2375, List.forall_mem_cons.mpr ⟨q2377, List.forall_mem_cons.mpr ⟨q2389, List.forall_mem_cons.mpr ⟨q2378, List.forall_mem_cons.mpr ⟨q2390, List.forall_mem_cons.mpr ⟨q2379, List.forall_mem_cons.mpr ⟨q2391, List.forall_mem_cons.mpr ⟨q2380, List.forall_mem_cons.mpr ⟨q2392, List.forall_mem_cons.mpr ⟨q2381, List.forall_mem_cons.mpr ⟨q2393, List.forall_mem_cons.mpr ⟨q2382, List.forall_mem_cons.mpr ⟨q2394, List.forall_mem_cons.mpr ⟨q2383, List.forall_mem_cons.mpr ⟨q2395, List.forall_mem_cons.mpr ⟨q2384, List.forall_mem_cons.mpr ⟨q2396, List.forall_mem_cons.mpr ⟨q2385, List.forall_mem_cons.mpr ⟨q2397, List.forall_mem_cons.mpr ⟨q2386, List.forall_mem_cons.mpr ⟨q2398, (fun _ h => by cases h)⟩⟩⟩⟩⟩⟩⟩⟩⟩⟩⟩⟩⟩⟩⟩⟩⟩⟩⟩⟩⟩⟩⟩⟩⟩⟩⟩⟩⟩⟩⟩⟩⟩⟩⟩⟩
theorem gND_in : ∀ q ∈ gND, Cond.declares q ∈ lw_tbl := List.forall_mem_cons.mpr ⟨q159, List.forall_mem_cons.mpr ⟨q160, List.forall_mem_cons.mpr ⟨q157, List.forall_mem_cons.mpr ⟨q158, List.forall_mem_cons.mpr ⟨q1624, List.forall_mem_cons.mpr ⟨q1625, List.forall_mem_cons.mpr ⟨q668, List.forall_mem_cons.mpr ⟨q700, List.forall_mem_cons.mpr ⟨q761, List.forall_mem_cons.mpr ⟨q774, List.forall_mem_cons.mpr ⟨q786, List.forall_mem_cons.mpr ⟨q796, List.forall_mem_cons.mpr ⟨q804, List.forall_mem_cons.mpr ⟨q810, List.forall_mem_cons.mpr ⟨q818, List.forall_mem_cons.mpr ⟨q909, List.forall_mem_cons.mpr ⟨q1064, List.forall_mem_cons.mpr ⟨q1461, List.forall_mem_cons.mpr ⟨q1345, List.forall_mem_cons.mpr ⟨q1355, List.forall_mem_cons.mpr ⟨q1369, List.forall_mem_cons.mpr ⟨q1565, (fun _ h => by cases h)⟩⟩⟩⟩⟩⟩⟩⟩⟩⟩⟩⟩⟩⟩⟩⟩⟩⟩⟩⟩⟩⟩
theorem gNO_in : ∀ q ∈ gNO, Cond.arrayOver (.object q) ∈ lw_tbl := List.forall_mem_cons.mpr ⟨q224, List.forall_mem_cons.mpr ⟨q264, List.forall_mem_cons.mpr ⟨q365, List.forall_mem_cons.mpr ⟨q488, List.forall_mem_cons.mpr ⟨q489, List.forall_mem_cons.mpr ⟨q491, List.forall_mem_cons.mpr ⟨q838, (fun _ h => by cases h)⟩⟩⟩⟩⟩⟩⟩
theorem gSR_in : ∀ q ∈ gSR, Cond.stringRef q.1 q.2.1 q.2.2 ∈ lw_tbl := List.forall_mem_cons.mpr ⟨q225, List.forall_mem_cons.mpr ⟨q226, List.forall_mem_cons.mpr ⟨q227, List.forall_mem_cons.mpr ⟨q228, List.forall_mem_cons.mpr ⟨q229, List.forall_mem_cons.mpr ⟨q230, List.forall_mem_cons.mpr ⟨q231, List.forall_mem_cons.mpr ⟨q232, List.forall_mem_cons.mpr ⟨q233, List.forall_mem_cons.mpr ⟨q234, List.forall_mem_cons.mpr ⟨q235, List.forall_mem_cons.mpr ⟨q236, List.forall_mem_cons.mpr ⟨q237, List.forall_mem_cons.mpr ⟨q238, List.forall_mem_cons.mpr ⟨q239, List.forall_mem_cons.mpr ⟨q240, List.forall_mem_cons.mpr ⟨q241, List.forall_mem_cons.mpr ⟨q242, List.forall_mem_cons.mpr ⟨q243, List.forall_mem_cons.mpr ⟨q244, List.forall_mem_cons.mpr ⟨q245, List.forall_mem_cons.mpr ⟨q246, List.forall_mem_cons.mpr ⟨q247, List.forall_mem_cons.mpr ⟨q248, List.forall_mem_cons.mpr ⟨q249, List.forall_mem_cons.mpr ⟨q250, List.forall_mem_cons.mpr ⟨q815, List.forall_mem_cons.mpr ⟨q820, List.forall_mem_cons.mpr ⟨q897, List.forall_mem_cons.mpr ⟨q901, List.forall_mem_cons.mpr ⟨q902, List.forall_mem_cons.mpr ⟨q457, List.forall_mem_cons.mpr ⟨q458, List.forall_mem_cons.mpr ⟨q459, List.forall_mem_cons.mpr ⟨q460, List.forall_mem_cons.mpr ⟨q461, List.forall_mem_cons.mpr ⟨q462, List.forall_mem_cons.mpr ⟨q463, List.forall_mem_cons.mpr ⟨q464, List.forall_mem_cons.mpr ⟨q1455, List.forall_mem_cons.mpr ⟨q1463, List.forall_mem_cons.mpr ⟨q1532, List.forall_mem_cons.mpr ⟨q1546, (fun _ h => by cases h)⟩⟩⟩⟩⟩⟩⟩⟩⟩⟩⟩⟩⟩⟩⟩⟩⟩⟩⟩⟩⟩⟩⟩⟩⟩⟩⟩⟩⟩⟩⟩⟩⟩⟩⟩⟩⟩⟩⟩⟩⟩⟩⟩
theorem gNS_in {s : State} {b : Nat} (hts : ∀ w ∈ lw_tbl, w.before #[Value.ref b] s = true) : ∀ q ∈ gNS, va_Nw (.selects q.1 q.2 q.2) s := by
  exact List.forall_mem_cons.mpr ⟨va_Nw.of rfl (selects_priv (x := ⟨"BitingDoors$Reader", "next", "()V"⟩) (by decide) (hts _ (lw_all_tbl q377)) (hts _ q680) (hts _ (lw_all_tbl q681)) (hts _ (lw_all_tbl q676)) rfl), List.forall_mem_cons.mpr ⟨va_Nw.of rfl (selects_priv (x := ⟨"BitingDoors$Reader", "next", "()V"⟩) (by decide) (hts _ (lw_all_tbl q433)) (hts _ q680) (hts _ (lw_all_tbl q681)) (hts _ (lw_all_tbl q675)) rfl), List.forall_mem_cons.mpr ⟨va_Nw.of rfl (selects_priv (x := ⟨"BitingDoors$Reader", "next", "()V"⟩) (by decide) (hts _ (lw_all_tbl q451)) (hts _ q680) (hts _ (lw_all_tbl q681)) (hts _ (lw_all_tbl q677)) rfl), List.forall_mem_cons.mpr ⟨va_Nw.of rfl (selects_priv (x := ⟨"BitingDoors$Reader", "next", "()V"⟩) (by decide) (hts _ (lw_all_tbl q377)) (hts _ q684) (hts _ (lw_all_tbl q685)) (hts _ (lw_all_tbl q676)) rfl), List.forall_mem_cons.mpr ⟨va_Nw.of rfl (selects_priv (x := ⟨"BitingDoors$Reader", "next", "()V"⟩) (by decide) (hts _ (lw_all_tbl q433)) (hts _ q684) (hts _ (lw_all_tbl q685)) (hts _ (lw_all_tbl q675)) rfl), List.forall_mem_cons.mpr ⟨va_Nw.of rfl (selects_priv (x := ⟨"BitingDoors$Reader", "next", "()V"⟩) (by decide) (hts _ (lw_all_tbl q451)) (hts _ q684) (hts _ (lw_all_tbl q685)) (hts _ (lw_all_tbl q677)) rfl), List.forall_mem_cons.mpr ⟨va_Nw.of rfl (selects_priv (x := ⟨"BitingDoors$Reader", "next", "()V"⟩) (by decide) (hts _ (lw_all_tbl q377)) (hts _ q691) (hts _ (lw_all_tbl q692)) (hts _ (lw_all_tbl q676)) rfl), List.forall_mem_cons.mpr ⟨va_Nw.of rfl (selects_priv (x := ⟨"BitingDoors$Reader", "next", "()V"⟩) (by decide) (hts _ (lw_all_tbl q433)) (hts _ q691) (hts _ (lw_all_tbl q692)) (hts _ (lw_all_tbl q675)) rfl), List.forall_mem_cons.mpr ⟨va_Nw.of rfl (selects_priv (x := ⟨"BitingDoors$Reader", "next", "()V"⟩) (by decide) (hts _ (lw_all_tbl q451)) (hts _ q691) (hts _ (lw_all_tbl q692)) (hts _ (lw_all_tbl q677)) rfl), List.forall_mem_cons.mpr ⟨va_Nw.of rfl (selects_priv (x := ⟨"BitingDoors$Reader", "next", "()V"⟩) (by decide) (hts _ (lw_all_tbl q377)) (hts _ q695) (hts _ (lw_all_tbl q696)) (hts _ (lw_all_tbl q676)) rfl), List.forall_mem_cons.mpr ⟨va_Nw.of rfl (selects_priv (x := ⟨"BitingDoors$Reader", "next", "()V"⟩) (by decide) (hts _ (lw_all_tbl q433)) (hts _ q695) (hts _ (lw_all_tbl q696)) (hts _ (lw_all_tbl q675)) rfl), List.forall_mem_cons.mpr ⟨va_Nw.of rfl (selects_priv (x := ⟨"BitingDoors$Reader", "next", "()V"⟩) (by decide) (hts _ (lw_all_tbl q451)) (hts _ q695) (hts _ (lw_all_tbl q696)) (hts _ (lw_all_tbl q677)) rfl), (fun _ h => by cases h)⟩⟩⟩⟩⟩⟩⟩⟩⟩⟩⟩⟩
def gTm (i : Nat) : Term := .string (gSR.getD i ("", 0, "")).1 (gSR.getD i ("", 0, "")).2.1
abbrev stC : Cond := Jvm.Cond.and given_1 narrow_1
def gIx : List (List Nat) := [[207, 208, 209, 210, 211, 212, 213], [214, 215, 216, 217, 218, 219, 220, 221], [222, 223, 224, 225, 226, 227, 228, 229, 230, 231, 232], [233, 234, 235, 236, 237, 238, 239], [240, 241, 242, 243, 244, 245, 246, 247, 248], [249, 250, 251, 252, 253, 254, 255, 256, 257, 258], [259, 260, 261, 262, 263, 264, 265], [266, 267, 268, 269, 270, 271, 272, 273, 274], [275, 276, 277, 278, 279, 280, 281, 282, 283], [284, 285, 286, 287, 288, 289], [290, 291, 292, 293, 294, 295, 296, 297], [298, 299, 300, 301, 302, 303, 304, 305], [306, 307, 308, 309, 310, 311, 312, 313], [314, 315, 316, 317, 318, 319, 320, 321, 322], [323, 324, 325, 326, 327, 328, 329, 330], [331, 332, 333, 334, 335, 336, 337, 338, 339], [340, 341, 342, 343, 344, 345, 346, 347], [348, 349, 350, 351, 352, 353], [354, 355, 356, 357, 358, 359, 360], [361, 362, 363, 364, 365, 366, 367], [368, 369, 370, 371, 372, 373, 374], [375, 376, 377, 378, 379, 380], [381, 382, 383, 384, 385, 386, 387, 388, 389], [390, 391, 392, 393, 394, 395, 396, 397, 398], [399, 400, 401, 402, 403, 404, 405, 406, 407, 408], [409, 410, 411, 412, 413, 414, 415, 416, 417, 418], [493, 494, 495, 496, 497, 498, 499, 500, 501, 502], [504, 505, 506, 507, 508, 509, 510, 511, 512], [514, 515, 516, 517, 518, 519, 520], [523, 524, 525, 526, 527, 528, 529, 530, 531], [534, 535, 536, 537, 538, 539, 540, 541, 542], [419, 420, 421, 422, 423, 424, 425, 426], [428, 429, 430, 431, 432, 433, 434], [436, 437, 438, 439, 440, 441], [443, 444, 445, 446, 447, 448, 449, 450, 451], [453, 454, 455, 456, 457, 458, 459, 460, 461, 462], [464, 465, 466, 467, 468, 469, 470, 471, 472, 473], [475, 476, 477, 478, 479, 480, 481], [483, 484, 485, 486, 487, 488, 489, 490, 491], [544, 545, 546, 547, 548, 549, 550], [552, 553, 554, 555, 556, 557, 558, 559, 560], [562, 563, 564, 565, 566, 567, 568], [570, 571, 572, 573, 574, 575]]
def gIk (i k : Nat) : Nat := (gIx.getD i []).getD k 0
theorem st_w1 : ∀ i : Nat, i < 43 → (flatC stC)[gIk i 0]? = some (Cond.exactly (gTm i) "java/lang/String") := by decide +kernel
theorem st_w2 : ∀ i : Nat, i < 43 → (flatC stC)[gIk i 1]? = some (Cond.eq (.field (gTm i) "java/lang/String" "coder" "B") (.int 0)) := by decide +kernel
theorem st_w3 : ∀ i : Nat, i < 43 → (flatC stC)[gIk i 2]? = some (Cond.arrayOf (.field (gTm i) "java/lang/String" "value" "[B") .byte) := by decide +kernel
theorem st_w4 : ∀ i : Nat, i < 43 → (flatC stC)[gIk i 3]? = some (Cond.eq (.length (.field (gTm i) "java/lang/String" "value" "[B")) (.int (Int32.ofNat (gSC.getD i []).length))) := by decide +kernel
theorem st_w5 : ∀ i : Nat, i < 43 → ∀ j : Nat, j < (gSC.getD i []).length → (flatC stC)[gIk i (4 + j)]? = some (Cond.eq (.elem (.field (gTm i) "java/lang/String" "value" "[B") (.int (Int32.ofNat j))) (.int ((gSC.getD i []).getD j 0))) := by decide +kernel
theorem st_strings {s : State} {args : Array Value} {A : Nat → Prop} (hg : ∀ w ∈ flatC stC, w.before args s = true) (hw : ∀ i : Nat, i < 43 → (Cond.stringRef (gSR.getD i ("", 0, "")).1 (gSR.getD i ("", 0, "")).2.1 (gSR.getD i ("", 0, "")).2.2).before args s = true) (hA : ∀ a : Nat, a < s.heap.size → ¬ A a) :
    ∃ adK adV : Nat → Nat, (∀ i : Nat, i < 43 → va_O "java/lang/String" (adK i) A s s.heap ∧ va_OF "java/lang/String" "coder" "B" (.int 0) (adK i) A s s.heap ∧ va_OF "java/lang/String" "value" "[B" (.ref (adV i)) (adK i) A s s.heap ∧ va_T .byte (adV i) (gSC.getD i []).length (fun j => .int ((gSC.getD i []).getD j 0)) A s s.heap) ∧
      ∀ i : Nat, i < 43 → vk_R (gSR.getD i ("", 0, "")).1 (gSR.getD i ("", 0, "")).2.1 (gSR.getD i ("", 0, "")).2.2 (adK i) s := by
  have h0 : ∀ i : Nat, ∃ q : Nat × Nat, i < 43 → (gTm i).eval args s none [] s = some (.ref q.1) ∧ va_O "java/lang/String" q.1 A s s.heap ∧ va_OF "java/lang/String" "coder" "B" (.int 0) q.1 A s s.heap ∧ va_OF "java/lang/String" "value" "[B" (.ref q.2) q.1 A s s.heap ∧ va_T .byte q.2 (gSC.getD i []).length (fun j => .int ((gSC.getD i []).getD j 0)) A s s.heap := by
    intro i
    by_cases hi : i < 43
    · have w1 := hg _ (List.mem_of_getElem? (st_w1 i hi))
      have w2 := hg _ (List.mem_of_getElem? (st_w2 i hi))
      have w3 := hg _ (List.mem_of_getElem? (st_w3 i hi))
      have w4 := hg _ (List.mem_of_getElem? (st_w4 i hi))
      have w5 := fun j hj => hg _ (List.mem_of_getElem? (st_w5 i hi j hj))
      obtain ⟨a, c, cA, kA, q1, q2, q3, q4, q5, q6, -⟩ := Cond.exactly_spec (args := args) (first := s) (o := none) (s := s) (idx := []) (t := gTm i) (cls := "java/lang/String") w1
      obtain ⟨t, ht, hT⟩ := va_Tof (f := fun j => .int ((gSC.getD i []).getD j 0)) (A := A) (by have := gSC_len (i := i); omega) w3 (va_eqt w4) (fun j hj => va_eqt (w5 j hj)) hA
      exact ⟨(a, t), fun _ => ⟨q1, ⟨cA, q3, q5, by rw [q6]; exact q2, hA a (Array.getElem?_eq_some_iff.mp q3).1⟩, vk_OFof q1 (va_eqt w2) hA, vk_OFof q1 ht hA, hT⟩⟩
    · exact ⟨(0, 0), fun h => absurd h hi⟩
  obtain ⟨ad, had⟩ := Classical.axiomOfChoice h0
  exact ⟨fun i => (ad i).1, fun i => (ad i).2, fun i hi => (had i hi).2, fun i hi => vk_R.of (hw i hi) (had i hi).1⟩
theorem st_steps {s : State} {args : Array Value} {A : Nat → Prop} {n : String} {v : List Int32} (hl : (Cond.laysStatic "BitingDoors" n "[I").before args s = true) (hi : (Cond.initialized "BitingDoors").before args s = true) (h1 : (Cond.arrayOf (.static "BitingDoors" n "[I") .int).before args s = true) (h2 : (Cond.eq (.length (.static "BitingDoors" n "[I")) (.int 4)).before args s = true)
    (h3 : ∀ j : Nat, j < 4 → (Cond.eq (.elem (.static "BitingDoors" n "[I") (.int (Int32.ofNat j))) (.int (v.getD j 0))).before args s = true) (hA : ∀ a : Nat, a < s.heap.size → ¬ A a) : ∃ t : Nat, va_Z "BitingDoors" n "[I" (.ref t) A s s.heap ∧ va_T .int t 4 (fun j => .int (v.getD j 0)) A s s.heap := by
  obtain ⟨t, ht, hT⟩ := va_Tof (N := 4) (f := fun j => .int (v.getD j 0)) (A := A) (by decide) h1 (va_eqt h2) (fun j hj => va_eqt (h3 j hj)) hA
  exact ⟨t, va_Zof hl hi ht hA, hT⟩
theorem st_sx : ∀ j : Nat, j < 4 → (flatC stC)[14 + j]? = some (Cond.eq (.elem (.static "BitingDoors" "STEP_X" "[I") (.int (Int32.ofNat j))) (.int (([0, 1, 0, -1] : List Int32).getD j 0))) := by decide +kernel
theorem st_sy : ∀ j : Nat, j < 4 → (flatC stC)[21 + j]? = some (Cond.eq (.elem (.static "BitingDoors" "STEP_Y" "[I") (.int (Int32.ofNat j))) (.int (([-1, 0, 1, 0] : List Int32).getD j 0))) := by decide +kernel
/-- the world at the start: no young cell yet -/
def h00 (n : Nat) : gH := (fun _ => gDead, n, 0)
set_option maxHeartbeats 4000000 in
theorem st_world {s : State} {b : Nat} (hts : ∀ w ∈ lw_tbl, w.before #[Value.ref b] s = true) (hgv : stC.before #[Value.ref b] s = true) : ∃ G : gG, G.1 = s.heap.size ∧ gW G (h00 s.heap.size) s := by
  have hA : ∀ a : Nat, a < s.heap.size → ¬ s.heap.size ≤ a := fun a h => Nat.not_le.mpr h
  have hg := flat_of_before stC hgv
  obtain ⟨c0, i0, k0⟩ := u_known (C := RX1) (T := TX1) (N := 46) (n := 46) hts (fun w h => lw_all_tbl (in_X1 w h)) (hts _ (lw_all_tbl q147))
  obtain ⟨c1, i1, k1⟩ := u_known (C := RX2) (T := TX2) (N := 8) (n := 8) hts (fun w h => lw_all_tbl (in_X2 w h)) (hts _ (lw_all_tbl q155))
  obtain ⟨c2, i2, k2⟩ := u_known (C := RX3) (T := TX3) (N := 6) (n := 6) hts (fun w h => lw_all_tbl (in_X3 w h)) (hts _ (lw_all_tbl q252))
  obtain ⟨c3, i3, k3⟩ := u_known (C := RX4) (T := TX4) (N := 9) (n := 9) hts (fun w h => lw_all_tbl (in_X4 w h)) (hts _ (lw_all_tbl q258))
  obtain ⟨c4, i4, k4⟩ := u_known (C := RX5) (T := TX5) (N := 2) (n := 2) hts (fun w h => lw_all_tbl (in_X5 w h)) (hts _ (lw_all_tbl q359))
  obtain ⟨c5, i5, k5⟩ := u_known (C := RX7) (T := TX7) (N := 10) (n := 10) hts (fun w h => lw_all_tbl (in_X7 w h)) (hts _ (lw_all_tbl q377))
  obtain ⟨c6, i6, k6⟩ := u_known (C := RX8) (T := TX8) (N := 9) (n := 9) hts (fun w h => lw_all_tbl (in_X8 w h)) (hts _ (lw_all_tbl q433))
  obtain ⟨c7, i7, k7⟩ := u_known (C := RX9) (T := TX9) (N := 12) (n := 12) hts (fun w h => lw_all_tbl (in_X9 w h)) (hts _ (lw_all_tbl q451))
  obtain ⟨c8, i8, k8⟩ := u_known (C := RX10) (T := TX10) (N := 64) (n := 64) hts (fun w h => lw_all_tbl (in_X10 w h)) (hts _ (lw_all_tbl q1645))
  obtain ⟨c9, i9, k9⟩ := u_known (C := RX11) (T := TX11) (N := 12) (n := 12) hts (fun w h => lw_all_tbl (in_X11 w h)) (hts _ (lw_all_tbl q832))
  obtain ⟨c10, i10, k10⟩ := u_known (C := RX12) (T := TX12) (N := 5) (n := 5) hts (fun w h => lw_all_tbl (in_X12 w h)) (hts _ (lw_all_tbl q932))
  obtain ⟨c11, i11, k11⟩ := u_known (C := RX14) (T := TX14) (N := 2) (n := 2) hts (fun w h => lw_all_tbl (in_X14 w h)) (hts _ (lw_all_tbl q1042))
  obtain ⟨c12, i12, k12⟩ := u_known (C := RX16) (T := TX16) (N := 1) (n := 1) hts (fun w h => lw_all_tbl (in_X16 w h)) (hts _ (lw_all_tbl q1061))
  obtain ⟨c13, i13, k13⟩ := u_known (C := RX17) (T := TX17) (N := 1) (n := 1) hts (fun w h => lw_all_tbl (in_X17 w h)) (hts _ (lw_all_tbl q1086))
  obtain ⟨c14, i14, k14⟩ := u_known (C := RX18) (T := TX18) (N := 1) (n := 1) hts (fun w h => lw_all_tbl (in_X18 w h)) (hts _ (lw_all_tbl q1094))
  obtain ⟨c15, i15, k15⟩ := u_known (C := RX20) (T := TX20) (N := 1) (n := 1) hts (fun w h => lw_all_tbl (in_X20 w h)) (hts _ (lw_all_tbl q1474))
  obtain ⟨c16, i16, k16⟩ := u_known (C := RX21) (T := TX21) (N := 1) (n := 1) hts (fun w h => lw_all_tbl (in_X21 w h)) (hts _ (lw_all_tbl q1490))
  obtain ⟨c17, i17, k17⟩ := u_known (C := RX22) (T := TX22) (N := 1) (n := 1) hts (fun w h => lw_all_tbl (in_X22 w h)) (hts _ (lw_all_tbl q1503))
  obtain ⟨c18, i18, k18⟩ := u_known (C := RX23) (T := TX23) (N := 3) (n := 3) hts (fun w h => lw_all_tbl (in_X23 w h)) (hts _ (lw_all_tbl q1517))
  obtain ⟨c19, i19, k19⟩ := u_known (C := RX24) (T := TX24) (N := 2) (n := 2) hts (fun w h => lw_all_tbl (in_X24 w h)) (hts _ (lw_all_tbl q1534))
  obtain ⟨c20, i20, k20⟩ := u_known (C := RX25) (T := TX25) (N := 2) (n := 2) hts (fun w h => lw_all_tbl (in_X25 w h)) (hts _ (lw_all_tbl q1548))
  obtain ⟨c21, i21, k21⟩ := u_known (C := RJ9) (T := TJ9) (N := 6) (n := 6) hts (fun w h => lw_all_tbl (in_J9 w h)) (hts _ (lw_all_tbl q1622))
  obtain ⟨a0, r0⟩ := st_prim (ty := .int) (hts _ (lw_all_tbl q317)) (fun c h => h)
  obtain ⟨a1, r1⟩ := st_prim (ty := .long) (hts _ (lw_all_tbl q1843)) (fun c h => h)
  obtain ⟨a2, r2⟩ := st_prim (ty := .byte) (hts _ (lw_all_tbl q222)) (fun c h => h)
  obtain ⟨a3, r3⟩ := st_prim (ty := .boolean) (hts _ (lw_all_tbl q487)) (fun c h => h)
  obtain ⟨a4, r4⟩ := st_obj (hts _ q838)
  obtain ⟨a5, r5⟩ := st_obj (hts _ q264)
  obtain ⟨a6, r6⟩ := st_obj (hts _ q365)
  obtain ⟨a7, r7⟩ := st_obj (hts _ q488)
  obtain ⟨a8, r8⟩ := st_obj (hts _ q489)
  obtain ⟨a9, r9⟩ := st_obj (hts _ q491)
  obtain ⟨a10, r10⟩ := st_obj (hts _ q224)
  obtain ⟨adK, adV, hS1, hS2⟩ := st_strings (A := fun q => s.heap.size ≤ q) hg (fun i hi => hts _ (by have := gSR_in (gSR.getD i ("", 0, "")) (by rw [List.getD_eq_getElem?_getD, List.getElem?_eq_getElem (show i < gSR.length from hi)]; exact List.getElem_mem _); exact this)) hA
  obtain ⟨tX, hX1, hX2⟩ := st_steps (n := "STEP_X") (v := [0, 1, 0, -1]) (A := fun q => s.heap.size ≤ q) (hts _ q1306) (hts _ (lw_all_tbl q109)) (hg _ (List.mem_of_getElem? (i := 12) rfl)) (hg _ (List.mem_of_getElem? (i := 13) rfl)) (fun j hj => hg _ (List.mem_of_getElem? (st_sx j hj))) hA
  obtain ⟨tY, hY1, hY2⟩ := st_steps (n := "STEP_Y") (v := [-1, 0, 1, 0]) (A := fun q => s.heap.size ≤ q) (hts _ q1308) (hts _ (lw_all_tbl q109)) (hg _ (List.mem_of_getElem? (i := 19) rfl)) (hg _ (List.mem_of_getElem? (i := 20) rfl)) (fun j hj => hg _ (List.mem_of_getElem? (st_sy j hj))) hA
  let G : gG := (s.heap.size, ((fun k => ([c0, c1, c2, c3, c4, c5, c6, c7, c8, c9, c10, c11, c12, c13, c14, c15, c16, c17, c18, c19, c20, c21] : List ClassId).getD k 0), (fun k => ([i0, i1, i2, i3, i4, i5, i6, i7, i8, i9, i10, i11, i12, i13, i14, i15, i16, i17, i18, i19, i20, i21] : List (Nat → Nat)).getD k (fun _ => 0))), (fun k => if k = 98 then c21 else ([a0, a1, a2, a3, a4, a5, a6, a7, a8, a9, a10] : List ClassId).getD k 0), adK, adV, tX, tY)
  refine ⟨G, rfl, ⟨rfl, Nat.le_refl _, fun a h1 h2 => absurd h1 (Nat.not_le.mpr h2), fun a _ => rfl⟩, ⟨?_, ?_⟩, ⟨fun q hq => va_Nw.of rfl (hts _ (gNF_in q hq)), fun q hq => va_Nw.of rfl (hts _ (gNM_in q hq)), fun q hq => va_Nw.of rfl (hts _ (gNC_in q hq)), fun q hq => va_Nw.of rfl (hts _ (gND_in q hq)), fun q hq => va_AO.of (hts _ (gNO_in q hq)), gNS_in hts⟩, ⟨⟨hX1, hX2⟩, ⟨hY1, hY2⟩, hS1, hS2, ?_, ?_, ?_, ?_, rfl, ?_, ?_⟩⟩
  · intro k q hq
    match k, hq with
    | 0, hq => cases hq; exact k0
    | 1, hq => cases hq; exact k1
    | 2, hq => cases hq; exact k2
    | 3, hq => cases hq; exact k3
    | 4, hq => cases hq; exact k4
    | 5, hq => cases hq; exact k5
    | 6, hq => cases hq; exact k6
    | 7, hq => cases hq; exact k7
    | 8, hq => cases hq; exact k8
    | 9, hq => cases hq; exact k9
    | 10, hq => cases hq; exact k10
    | 11, hq => cases hq; exact k11
    | 12, hq => cases hq; exact k12
    | 13, hq => cases hq; exact k13
    | 14, hq => cases hq; exact k14
    | 15, hq => cases hq; exact k15
    | 16, hq => cases hq; exact k16
    | 17, hq => cases hq; exact k17
    | 18, hq => cases hq; exact k18
    | 19, hq => cases hq; exact k19
    | 20, hq => cases hq; exact k20
    | 21, hq => cases hq; exact k21
    | k + 22, hq => simp [gCl] at hq
  · intro k q hq
    match k, hq with
    | 0, hq => cases hq; exact r0
    | 1, hq => cases hq; exact r1
    | 2, hq => cases hq; exact r2
    | 3, hq => cases hq; exact r3
    | 4, hq => cases hq; exact r4
    | 5, hq => cases hq; exact r5
    | 6, hq => cases hq; exact r6
    | 7, hq => cases hq; exact r7
    | 8, hq => cases hq; exact r8
    | 9, hq => cases hq; exact r9
    | 10, hq => cases hq; exact r10
    | k + 11, hq => simp [gTys] at hq
  · exact va_Zof (hts _ q720) (hts _ (lw_all_tbl q121)) (va_eqi (hg _ (List.mem_of_getElem? (i := 6) rfl))) hA
  · exact va_Zqof (hts _ q179) (hts _ (lw_all_tbl q110)) (hg _ (List.mem_of_getElem? (i := 4) rfl)) hA
  · exact va_Zqof (hts _ q181) (hts _ (lw_all_tbl q110)) (hg _ (List.mem_of_getElem? (i := 5) rfl)) hA
  · exact va_Zqof (hts _ q736) (hts _ (lw_all_tbl q123)) (hg _ (List.mem_of_getElem? (i := 7) rfl)) hA
  · exact st_zs (hts _ q179) (hg _ (List.mem_of_getElem? (i := 4) rfl)) hA
  · exact st_zs (hts _ q181) (hg _ (List.mem_of_getElem? (i := 5) rfl)) hA

