set_option maxRecDepth 100000
/-- only from the heap hA, only to hB -/
noncomputable def Mo.gr {α : Type} (hA hB : gH) (b : α) (hl : gLe hA hB) : Mo α := ⟨fun h => by
  classical
  exact if h = hA then some (b, hB) else none, fun h r h' e => by
    classical
    dsimp only at e
    by_cases x : h = hA
    · rw [if_pos x] at e; cases e; rw [x]; exact hl
    · rw [if_neg x] at e; cases e⟩
theorem Mo.gr_of {α : Type} {hA hB : gH} {b : α} {hl : gLe hA hB} : (Mo.gr hA hB b hl).1 hA = some (b, hB) := by
  classical
  show (if hA = hA then some (b, hB) else none : Option (α × gH)) = _
  exact if_pos rfl
theorem Mo.gr_some {α : Type} {hA hB h h' : gH} {b r : α} {hl : gLe hA hB} (e : (Mo.gr hA hB b hl).1 h = some (r, h')) : h = hA ∧ r = b ∧ h' = hB := by
  classical
  have e : (if h = hA then some (b, hB) else none : Option (α × gH)) = some (r, h') := e
  by_cases x : h = hA
  · rw [if_pos x] at e; cases e; exact ⟨x, rfl, rfl⟩
  · rw [if_neg x] at e; cases e
theorem mGet {am : Nat} {hn : gH} {ms : MS} {k c : Nat} (hk : mFk[k]? = some c) : gFld [8] am k (mkM am hn ms) = some (mV am ms k c) := by
  unfold gFld
  rw [mkM_o]
  simp [mFs, hk]
theorem mLe {am : Nat} {hn : gH} {ms ms' : MS} : gLe (mkM am hn ms) (mkM am hn ms') := ⟨Nat.le_refl hn.2.1, Nat.le_refl hn.2.2⟩
/-- the contract of a method of the reference at am -/
def gCtM (G : gG) (am : Nat) (y : MethodName) (cc : ByteArray) (nL : Nat) (ret : Option FieldType) (fr lo : Nat) (av : List Value) {α : Type} (F : TM α) (ov : α → Option Value) : Prop :=
  ∀ (hn : gH) (ms : MS) (r : α) (ms' : MS), F ms = some (r, ms') → gCt G y cc nL ret fr lo av (Mo.gr (mkM am hn ms) (mkM am hn ms') r mLe) ov
section
variable {K : gK} {cc : ByteArray} {nL : Nat} {own nm : String} {ret : Option FieldType} {fr lo : Nat} {pc : Nat} {lv : List (Nat × Value)} {st : List Value} {β : Type} {r : β} {am : Nat} {hn : gH} {ms m' : MS}
theorem gCtM.of {G : gG} {y : MethodName} {av : List Value} {α : Type} {F : TM α} {ov : α → Option Value} (hy : plainName y.cls = true) (hlen : (lg_sl av).length ≤ nL)
    (body : ∀ (K : gK) (hn : gH) (ms ms' : MS) (r : α), kG K = G → gX K cc nL y.cls y.name ret fr lo → kh1 K = mkM am hn ms' → F ms = some (r, ms') → ko K = .returned (ov r) → V K nL (mkM am hn ms) 0 (lv_args 0 av) []) : gCtM G am y cc nL ret fr lo av F ov := by
  intro hn ms r ms' hF
  refine gCt.of hy hlen (fun K r' hG X hd ho => ?_)
  obtain ⟨e1, rfl, e2⟩ := Mo.gr_some hd
  rw [e1]
  exact body K hn ms ms' r' hG X e2 hF ho
theorem t_getI (X : gX K cc nL own nm ret fr lo) {k index : Nat} {f : Int32 → TM β} (hd : TM.bind (tI k) f ms = some (r, m')) (hk : mFk[k]? = some 0) (fl : gFl own index [8] k) (hdg : decode cc pc = .ok (.getfield index, 3)) (kk : ∀ x, f x ms = some (r, m') → V K nL (mkM am hn ms) (pc + 3) lv (.int x :: st)) : V K nL (mkM am hn ms) pc lv (.ref am :: st) :=
  v_get X fl (mGet hk) hdg (kk _ hd)
theorem t_getL (X : gX K cc nL own nm ret fr lo) {k index : Nat} {f : Int64 → TM β} (hd : TM.bind (tL k) f ms = some (r, m')) (hk : mFk[k]? = some 1) (fl : gFl own index [8] k) (hdg : decode cc pc = .ok (.getfield index, 3)) (kk : ∀ x, f x ms = some (r, m') → V K nL (mkM am hn ms) (pc + 3) lv (.long x :: st)) : V K nL (mkM am hn ms) pc lv (.ref am :: st) :=
  v_get X fl (mGet hk) hdg (kk _ hd)
theorem t_getZ (X : gX K cc nL own nm ret fr lo) {k index : Nat} {f : Bool → TM β} (hd : TM.bind (tZ k) f ms = some (r, m')) (hk : mFk[k]? = some 0) (fl : gFl own index [8] k) (hdg : decode cc pc = .ok (.getfield index, 3)) (kk : ∀ x, f x ms = some (r, m') → V K nL (mkM am hn ms) (pc + 3) lv (.int (b2i x) :: st)) : V K nL (mkM am hn ms) pc lv (.ref am :: st) := by
  obtain ⟨b, m1, e1, e2⟩ := TM.bind_some hd
  have e1 : (if ms.1 k = 0 then some (false, ms) else if ms.1 k = 1 then some (true, ms) else none) = some (b, m1) := e1
  have hv : ms.1 k = b2i b ∧ m1 = ms := by
    by_cases h0 : ms.1 k = 0
    · rw [if_pos h0] at e1; cases e1; exact ⟨h0, rfl⟩
    · rw [if_neg h0] at e1
      by_cases h1 : ms.1 k = 1
      · rw [if_pos h1] at e1; cases e1; exact ⟨h1, rfl⟩
      · rw [if_neg h1] at e1; cases e1
  obtain ⟨hv, rfl⟩ := hv
  refine v_get X fl (mGet hk) hdg ?_
  show V K nL (mkM am hn m1) (pc + 3) lv (.int (m1.1 k) :: st)
  rw [hv]
  exact kk _ e2
theorem t_getA (X : gX K cc nL own nm ret fr lo) {k index j : Nat} (hk : mFk[k]? = some (j + 1 + 1)) (fl : gFl own index [8] k) (hdg : decode cc pc = .ok (.getfield index, 3)) (kk : V K nL (mkM am hn ms) (pc + 3) lv (.ref (am + (j + 1)) :: st)) : V K nL (mkM am hn ms) pc lv (.ref am :: st) :=
  v_get X fl (mGet hk) hdg kk
theorem mPut {k c : Nat} {v : Value} {h2 : gH} (hk : mFk[k]? = some c) (e : (va_up (mkM am hn ms).1 am (.inr (8, (mFs am ms).set k v)), (mkM am hn ms).2) = h2) : (Mo.bind (pF [8] am k v) (fun _ => Mo.gr h2 h2 () gLe.rf)).1 (mkM am hn ms) = some ((), h2) := by
  have hl : k < (mFs am ms).length := by unfold mFs; rw [List.length_mapIdx]; exact (List.getElem?_eq_some_iff.mp hk).1
  have e1 : (pF [8] am k v).1 (mkM am hn ms) = some ((), h2) := by
    show (match (mkM am hn ms).1 am with
      | .inr o => if o.1 ∈ [8] ∧ k < o.2.length then some (va_up (mkM am hn ms).1 am (.inr (o.1, o.2.set k v))) else none
      | .inl _ => none).map (fun c => ((), (c, (mkM am hn ms).2))) = _
    rw [mkM_o]
    simp only [hl, List.mem_cons, List.not_mem_nil, or_false, and_self, if_true, Option.map_some]
    rw [← e]
  rw [Mo.bind_of e1]
  exact Mo.gr_of
theorem t_putI (X : gX K cc nL own nm ret fr lo) {k index : Nat} {x : Int32} {f : Unit → TM β} (hd : TM.bind (sI k x) f ms = some (r, m')) (hk : mFk[k]? = some 0) (fl : gFp own nm index [8] k .int) (hdg : decode cc pc = .ok (.putfield index, 3)) (kk : ∀ m, f () m = some (r, m') → V K nL (mkM am hn m) (pc + 3) lv st) : V K nL (mkM am hn ms) pc lv (.int x :: .ref am :: st) := by
  refine v_put (v := .int x) X (mPut hk (mkM_setI hk)) fl rfl rfl hdg (fun h2 e => ?_)
  obtain ⟨rfl, -, -⟩ := Mo.gr_some e
  exact kk _ hd
theorem t_putZ (X : gX K cc nL own nm ret fr lo) {k index : Nat} {b : Bool} {f : Unit → TM β} (hd : TM.bind (sI k (b2i b)) f ms = some (r, m')) (hk : mFk[k]? = some 0) (fl : gFp own nm index [8] k .boolean) (hdg : decode cc pc = .ok (.putfield index, 3)) (kk : ∀ m, f () m = some (r, m') → V K nL (mkM am hn m) (pc + 3) lv st) : V K nL (mkM am hn ms) pc lv (.int (b2i b) :: .ref am :: st) := by
  refine v_put (v := .int (b2i b)) X (mPut hk (mkM_setI hk)) fl (b2i_nar _) (fits_b2i _) hdg (fun h2 e => ?_)
  obtain ⟨rfl, -, -⟩ := Mo.gr_some e
  exact kk _ hd
theorem t_putL (X : gX K cc nL own nm ret fr lo) {k index : Nat} {x : Int64} {f : Unit → TM β} (hd : TM.bind (sL k x) f ms = some (r, m')) (hk : mFk[k]? = some 1) (fl : gFp own nm index [8] k .long) (hdg : decode cc pc = .ok (.putfield index, 3)) (kk : ∀ m, f () m = some (r, m') → V K nL (mkM am hn m) (pc + 3) lv st) : V K nL (mkM am hn ms) pc lv (.long x :: .ref am :: st) := by
  refine v_put (v := .long x) X (mPut hk (mkM_setL hk)) fl rfl rfl hdg (fun h2 e => ?_)
  obtain ⟨rfl, -, -⟩ := Mo.gr_some e
  exact kk _ hd
theorem mArr_I {j k kd n : Nat} (hj : mTab[j]? = some (k, kd, n)) (hkd : kd ≠ 1) : (mkM am hn ms).1 (am + (j + 1)) = .inl (kd, n, .inl (ms.2.2.1 k)) := by
  obtain ⟨h1, -⟩ := mTab_get hj
  rw [mkM_a _ _ _ (by omega) (by omega)]
  simp only [mArr, Nat.add_sub_cancel, hj, if_neg hkd]
theorem mArr_L {j k n : Nat} (hj : mTab[j]? = some (k, 1, n)) : (mkM am hn ms).1 (am + (j + 1)) = .inl (1, n, .inr (.inl (ms.2.2.2 k))) := by
  obtain ⟨h1, -⟩ := mTab_get hj
  rw [mkM_a _ _ _ (by omega) (by omega)]
  simp only [mArr, Nat.add_sub_cancel, hj, if_true]
theorem tA_some {k n : Nat} {i : Int32} {f : Int32 → TM β} (hd : TM.bind (tA k n i) f ms = some (r, m')) : gIn i n = true ∧ f (ms.2.2.1 k i.toNatClampNeg) ms = some (r, m') := by
  obtain ⟨b, m1, e1, e2⟩ := TM.bind_some hd
  by_cases w : gIn i n = true
  · have e1 : (if gIn i n = true then some (ms.2.2.1 k i.toNatClampNeg, ms) else none) = some (b, m1) := e1
    rw [if_pos w] at e1; cases e1; exact ⟨w, e2⟩
  · have e1 : (if gIn i n = true then some (ms.2.2.1 k i.toNatClampNeg, ms) else none) = some (b, m1) := e1
    rw [if_neg w] at e1; cases e1
theorem tB_some {k n : Nat} {i : Int32} {f : Int64 → TM β} (hd : TM.bind (tB k n i) f ms = some (r, m')) : gIn i n = true ∧ f (ms.2.2.2 k i.toNatClampNeg) ms = some (r, m') := by
  obtain ⟨b, m1, e1, e2⟩ := TM.bind_some hd
  by_cases w : gIn i n = true
  · have e1 : (if gIn i n = true then some (ms.2.2.2 k i.toNatClampNeg, ms) else none) = some (b, m1) := e1
    rw [if_pos w] at e1; cases e1; exact ⟨w, e2⟩
  · have e1 : (if gIn i n = true then some (ms.2.2.2 k i.toNatClampNeg, ms) else none) = some (b, m1) := e1
    rw [if_neg w] at e1; cases e1
/-- a value, and no other -/
def Mo.isv {α : Type} [DecidableEq α] (c x : α) : Mo Unit := Mo.rd fun _ => if x = c then some () else none
theorem Mo.isv_some {α : Type} [DecidableEq α] {c x : α} {h h' : gH} {u : Unit} (e : (Mo.isv c x).1 h = some (u, h')) : x = c := by
  obtain ⟨e3, -⟩ := Mo.rd_some e
  by_cases z : x = c
  · exact z
  · rw [if_neg z] at e3; cases e3
theorem Mo.isv_of {α : Type} [DecidableEq α] {c : α} {h : gH} : (Mo.isv c c).1 h = some ((), h) := by
  show (if c = c then some () else none).map (fun a => (a, h)) = _
  rw [if_pos rfl]; rfl
theorem mAld {j k kd n : Nat} {i : Int32} (hj : mTab[j]? = some (k, kd, n)) (hkd : kd ≠ 1) (w : gIn i n = true) : (Mo.bind (aldI kd (am + (j + 1)) i) (fun x => Mo.isv (ms.2.2.1 k i.toNatClampNeg) x)).1 (mkM am hn ms) = some ((), mkM am hn ms) := by
  have e1 : (aldI kd (am + (j + 1)) i).1 (mkM am hn ms) = some (ms.2.2.1 k i.toNatClampNeg, mkM am hn ms) := by
    unfold aldI Mo.rd
    simp only [mArr_I hj hkd, w, and_self, if_true, Option.map_some]
  rw [Mo.bind_of e1]
  exact Mo.isv_of
theorem t_iald (X : gX K cc nL own nm ret fr lo) {j k n : Nat} {i : Int32} {f : Int32 → TM β} (hd : TM.bind (tA k n i) f ms = some (r, m')) (hj : mTab[j]? = some (k, 0, n)) (hdg : decode cc pc = .ok (.iaload, 1)) (kk : ∀ x, f x ms = some (r, m') → V K nL (mkM am hn ms) (pc + 1) lv (.int x :: st)) : V K nL (mkM am hn ms) pc lv (.int i :: .ref (am + (j + 1)) :: st) := by
  obtain ⟨w, e⟩ := tA_some hd
  refine v_iald X (mAld hj (by decide) w) hdg (fun x hx => ?_)
  rw [Mo.isv_some hx]
  exact kk _ e
theorem t_zald (X : gX K cc nL own nm ret fr lo) {j k n : Nat} {i : Int32} {f : Int32 → TM β} (hd : TM.bind (tA k n i) f ms = some (r, m')) (hj : mTab[j]? = some (k, 3, n)) (hdg : decode cc pc = .ok (.baload, 1)) (kk : ∀ x, f x ms = some (r, m') → V K nL (mkM am hn ms) (pc + 1) lv (.int x :: st)) : V K nL (mkM am hn ms) pc lv (.int i :: .ref (am + (j + 1)) :: st) := by
  obtain ⟨w, e⟩ := tA_some hd
  refine v_zald X (mAld hj (by decide) w) hdg (fun x hx => ?_)
  rw [Mo.isv_some hx]
  exact kk _ e
theorem t_lald (X : gX K cc nL own nm ret fr lo) {j k n : Nat} {i : Int32} {f : Int64 → TM β} (hd : TM.bind (tB k n i) f ms = some (r, m')) (hj : mTab[j]? = some (k, 1, n)) (hdg : decode cc pc = .ok (.laload, 1)) (kk : ∀ x, f x ms = some (r, m') → V K nL (mkM am hn ms) (pc + 1) lv (.long x :: st)) : V K nL (mkM am hn ms) pc lv (.int i :: .ref (am + (j + 1)) :: st) := by
  obtain ⟨w, e⟩ := tB_some hd
  have e1 : (aldL (am + (j + 1)) i).1 (mkM am hn ms) = some (ms.2.2.2 k i.toNatClampNeg, mkM am hn ms) := by
    unfold aldL Mo.rd
    simp only [mArr_L hj, w, and_self, if_true, Option.map_some]
  refine v_lald X (f := fun x => Mo.isv (ms.2.2.2 k i.toNatClampNeg) x) (r := ()) (h' := mkM am hn ms) (by rw [Mo.bind_of e1]; exact Mo.isv_of) hdg (fun x hx => ?_)
  rw [Mo.isv_some hx]
  exact kk _ e
theorem sA_some {k n : Nat} {i x : Int32} {f : Unit → TM β} (hd : TM.bind (sA k n i x) f ms = some (r, m')) : gIn i n = true ∧ f () (uA ms k i.toNatClampNeg x) = some (r, m') := by
  obtain ⟨b, m1, e1, e2⟩ := TM.bind_some hd
  have e1 : (if gIn i n = true then some ((), uA ms k i.toNatClampNeg x) else none) = some (b, m1) := e1
  by_cases w : gIn i n = true
  · rw [if_pos w] at e1; cases e1; exact ⟨w, e2⟩
  · rw [if_neg w] at e1; cases e1
theorem sB_some {k n : Nat} {i : Int32} {x : Int64} {f : Unit → TM β} (hd : TM.bind (sB k n i x) f ms = some (r, m')) : gIn i n = true ∧ f () (uB ms k i.toNatClampNeg x) = some (r, m') := by
  obtain ⟨b, m1, e1, e2⟩ := TM.bind_some hd
  have e1 : (if gIn i n = true then some ((), uB ms k i.toNatClampNeg x) else none) = some (b, m1) := e1
  by_cases w : gIn i n = true
  · rw [if_pos w] at e1; cases e1; exact ⟨w, e2⟩
  · rw [if_neg w] at e1; cases e1
theorem mAst {j k kd n : Nat} {i x : Int32} (hj : mTab[j]? = some (k, kd, n)) (hkd : kd ≠ 1) (w : gIn i n = true) : (Mo.bind (astI kd (am + (j + 1)) i x) (fun _ => Mo.gr (mkM am hn (uA ms k i.toNatClampNeg x)) (mkM am hn (uA ms k i.toNatClampNeg x)) () gLe.rf)).1 (mkM am hn ms) = some ((), mkM am hn (uA ms k i.toNatClampNeg x)) := by
  have e1 : (astI kd (am + (j + 1)) i x).1 (mkM am hn ms) = some ((), mkM am hn (uA ms k i.toNatClampNeg x)) := by
    rw [← mkM_setA (x := x) (i := i.toNatClampNeg) hj hkd]
    unfold astI Mo.wr
    simp only [mArr_I hj hkd, w, and_self, if_true, Option.map_some]
  rw [Mo.bind_of e1]
  exact Mo.gr_of
theorem t_iast (X : gX K cc nL own nm ret fr lo) {j k n : Nat} {i x : Int32} {f : Unit → TM β} (hd : TM.bind (sA k n i x) f ms = some (r, m')) (hj : mTab[j]? = some (k, 0, n)) (hdg : decode cc pc = .ok (.iastore, 1)) (kk : ∀ m, f () m = some (r, m') → V K nL (mkM am hn m) (pc + 1) lv st) : V K nL (mkM am hn ms) pc lv (.int x :: .int i :: .ref (am + (j + 1)) :: st) := by
  obtain ⟨w, e⟩ := sA_some hd
  refine v_iast X (mAst hj (by decide) w) hdg (fun h2 hx => ?_)
  obtain ⟨rfl, -, -⟩ := Mo.gr_some hx
  exact kk _ e
theorem t_zast (X : gX K cc nL own nm ret fr lo) {j k n : Nat} {i x : Int32} {f : Unit → TM β} (hd : TM.bind (sA k n i x) f ms = some (r, m')) (hj : mTab[j]? = some (k, 3, n)) (hnar : narrow .boolean (.int x) = .int x) (hdg : decode cc pc = .ok (.bastore, 1)) (kk : ∀ m, f () m = some (r, m') → V K nL (mkM am hn m) (pc + 1) lv st) : V K nL (mkM am hn ms) pc lv (.int x :: .int i :: .ref (am + (j + 1)) :: st) := by
  obtain ⟨w, e⟩ := sA_some hd
  refine v_zast X (mAst hj (by decide) w) hnar hdg (fun h2 hx => ?_)
  obtain ⟨rfl, -, -⟩ := Mo.gr_some hx
  exact kk _ e
theorem t_last (X : gX K cc nL own nm ret fr lo) {j k n : Nat} {i : Int32} {x : Int64} {f : Unit → TM β} (hd : TM.bind (sB k n i x) f ms = some (r, m')) (hj : mTab[j]? = some (k, 1, n)) (hdg : decode cc pc = .ok (.lastore, 1)) (kk : ∀ m, f () m = some (r, m') → V K nL (mkM am hn m) (pc + 1) lv st) : V K nL (mkM am hn ms) pc lv (.long x :: .int i :: .ref (am + (j + 1)) :: st) := by
  obtain ⟨w, e⟩ := sB_some hd
  have e1 : (astL (am + (j + 1)) i x).1 (mkM am hn ms) = some ((), mkM am hn (uB ms k i.toNatClampNeg x)) := by
    rw [← mkM_setB (x := x) (i := i.toNatClampNeg) hj]
    unfold astL Mo.wr
    simp only [mArr_L hj, w, and_self, if_true, Option.map_some]
  refine v_last X (f := fun _ => Mo.gr (mkM am hn (uB ms k i.toNatClampNeg x)) (mkM am hn (uB ms k i.toNatClampNeg x)) () gLe.rf) (r := ()) (h' := mkM am hn (uB ms k i.toNatClampNeg x)) (by rw [Mo.bind_of e1]; exact Mo.gr_of) hdg (fun h2 hx => ?_)
  obtain ⟨rfl, -, -⟩ := Mo.gr_some hx
  exact kk _ e
end
