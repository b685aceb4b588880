set_option maxRecDepth 100000
/-- the static arrays STEP_X, STEP_Y -/
def stepA (j : Nat) (i : Int32) : Mo Int32 := Mo.rd fun _ => if gIn i 4 = true then some ((if j = 0 then ([0, 1, 0, -1] : List Int32) else [-1, 0, 1, 0]).getD i.toNatClampNeg 0) else none
section
variable {K : gK} {cc : ByteArray} {nL : Nat} {own nm : String} {ret : Option FieldType} {fr lo : Nat} {h : gH} {pc : Nat} {lv : List (Nat × Value)} {st : List Value} {β : Type} {r : β} {h' : gH} {z : Option (β × gH)}
theorem v_lvI {e : Int32} {f : Int32 → Mo β} (hd : (Mo.lv e f).1 h = z) (k : ∀ v, (f v).1 h = z → V K nL h pc lv (.int v :: st)) : V K nL h pc lv (.int e :: st) := k e hd
theorem v_lvZ {e : Bool} {f : Bool → Mo β} (hd : (Mo.lv e f).1 h = z) (k : ∀ v, (f v).1 h = z → V K nL h pc lv (.int (b2i v) :: st)) : V K nL h pc lv (.int (b2i e) :: st) := k e hd
theorem v_lvL {e : Int64} {f : Int64 → Mo β} (hd : (Mo.lv e f).1 h = z) (k : ∀ v, (f v).1 h = z → V K nL h pc lv (.long v :: st)) : V K nL h pc lv (.long e :: st) := k e hd
theorem v_iincL (X : gX K cc nL own nm ret fr lo) {i : Nat} {n : Int} {x n2 : Int32} {lv2 : Int32 → List (Nat × Value)} {f : Int32 → Mo β} (hd : (Mo.lv (x + n2) f).1 h = z) (hdg : decode cc pc = .ok (.iinc i n, 3)) (q : Nat) (hk : lv[q]? = some (i, .int x)) (hn2 : Int32.ofInt n = n2) (hn : i < nL) (hl2 : ∀ v, (i, Value.int v) :: lv.filter (fun q => !(q.1 == i) && !(q.1 + 1 == i && q.2.category == 2)) = lv2 v) (k : ∀ v, (f v).1 h = z → V K nL h (pc + 3) (lv2 v) st) : V K nL h pc lv st :=
  v_iinc X hdg q hk (by rw [hn2]) hn (hl2 _) (k _ hd)
theorem v_aldQ (X : gX K cc nL own nm ret fr lo) {kd a : Nat} {i : Int32} {f : Option Nat → Mo β} (hd : (Mo.bind (aldN kd a i) f).1 h = some (r, h')) (q0 : Nat) {C : String} (h0 : (gTys (kG K))[q0]? = some ((kG K).2.2.1 kd, .object C)) (hkd : kd < 90) (hk10 : kd ≠ 10) (hdg : decode cc pc = .ok (.aaload, 1)) (kk : ∀ x : Option Nat, (f x).1 h = some (r, h') → V K nL h (pc + 1) lv (va_rf x :: st)) : V K nL h pc lv (.int i :: .ref a :: st) := by
  refine v_aldN X hd q0 h0 hkd hdg (fun x e => ?_)
  have hs : gS (kG K) kd x = x := by unfold gS; rw [if_neg hk10]
  rw [hs]
  exact kk x e
theorem stepA_some {j : Nat} {i : Int32} {f : Int32 → Mo β} (hd : (Mo.bind (stepA j i) f).1 h = some (r, h')) : vp_in i 4 ∧ (f ((if j = 0 then ([0, 1, 0, -1] : List Int32) else [-1, 0, 1, 0]).getD i.toNatClampNeg 0)).1 h = some (r, h') := by
  obtain ⟨x, h1, e1, e2⟩ := Mo.bind_some hd
  obtain ⟨e3, rfl⟩ := Mo.rd_some e1
  by_cases w : gIn i 4 = true
  · rw [if_pos w] at e3
    cases e3
    exact ⟨gIn_in w, e2⟩
  · rw [if_neg w] at e3; cases e3
theorem v_gets0 (X : gX K cc nL own nm ret fr lo) {index : Nat} {ref : String} (hl0 : Cond.fieldLink own index ref "STEP_X" "[I" ∈ lw_all) (hs : ref = "BitingDoors") (hdg : decode cc pc = .ok (.getstatic index, 3)) (k : V K nL h (pc + 3) lv (.ref (kG K).2.2.2.2.2.1 :: st)) : V K nL h pc lv st := by
  subst hs
  exact fun ls hl H locs cells slots rp => va_gets X.hx X.hb X.hW.2.2.2.1.1 rp.2.1 X.hown (X.hts _ hl0) (fun _ x => x) hdg (k ls hl H locs cells slots rp)
theorem v_gets1 (X : gX K cc nL own nm ret fr lo) {index : Nat} {ref : String} (hl0 : Cond.fieldLink own index ref "STEP_Y" "[I" ∈ lw_all) (hs : ref = "BitingDoors") (hdg : decode cc pc = .ok (.getstatic index, 3)) (k : V K nL h (pc + 3) lv (.ref (kG K).2.2.2.2.2.2 :: st)) : V K nL h pc lv st := by
  subst hs
  exact fun ls hl H locs cells slots rp => va_gets X.hx X.hb X.hW.2.2.2.2.1.1 rp.2.1 X.hown (X.hts _ hl0) (fun _ x => x) hdg (k ls hl H locs cells slots rp)
theorem v_stepld0 (X : gX K cc nL own nm ret fr lo) {i : Int32} {f : Int32 → Mo β} (hd : (Mo.bind (stepA 0 i) f).1 h = some (r, h')) (hdg : decode cc pc = .ok (.iaload, 1)) (kk : ∀ x : Int32, (f x).1 h = some (r, h') → V K nL h (pc + 1) lv (.int x :: st)) : V K nL h pc lv (.int i :: .ref (kG K).2.2.2.2.2.1 :: st) := by
  intro ls hl H locs cells slots rp
  obtain ⟨e1, e2⟩ := stepA_some hd
  exact va_ti X.hx X.hb X.hW.2.2.2.1.2 rp.2.1 e1 rfl hdg (kk _ e2 ls hl H locs cells slots rp)
theorem v_stepld1 (X : gX K cc nL own nm ret fr lo) {i : Int32} {f : Int32 → Mo β} (hd : (Mo.bind (stepA 1 i) f).1 h = some (r, h')) (hdg : decode cc pc = .ok (.iaload, 1)) (kk : ∀ x : Int32, (f x).1 h = some (r, h') → V K nL h (pc + 1) lv (.int x :: st)) : V K nL h pc lv (.int i :: .ref (kG K).2.2.2.2.2.2 :: st) := by
  intro ls hl H locs cells slots rp
  obtain ⟨e1, e2⟩ := stepA_some hd
  exact va_ti X.hx X.hb X.hW.2.2.2.2.1.2 rp.2.1 e1 rfl hdg (kk _ e2 ls hl H locs cells slots rp)
theorem v_tableOut (X : gX K cc nL own nm ret fr lo) {dflt lo0 hi : Int} {offs : Array Int} {len : Nat} {x : Int32} {tgt : Nat} (hdg : decode cc pc = .ok (.tableswitch dflt lo0 hi offs, len)) (hx : x.toInt < lo0 ∨ hi < x.toInt) (ht : (pc : Int) + dflt = (tgt : Int)) (k : V K nL h tgt lv st) : V K nL h pc lv (.int x :: st) :=
  fun ls hl H locs cells slots rp => lv_tableOut X.hx X.hb hdg hx ht (k ls hl H locs cells slots rp)
theorem v_tableIn (X : gX K cc nL own nm ret fr lo) {dflt lo0 hi : Int} {offs : Array Int} {len : Nat} {x k : Int32} {off : Int} {tgt : Nat} (hdg : decode cc pc = .ok (.tableswitch dflt lo0 hi offs, len)) (hx : x = k) (h1 : ¬ k.toInt < lo0) (h2 : ¬ hi < k.toInt) (ho : offs[(k.toInt - lo0).toNat]? = some off) (ht : (pc : Int) + off = (tgt : Int)) (kk : V K nL h tgt lv st) : V K nL h pc lv (.int x :: st) := by
  subst hx
  exact fun ls hl H locs cells slots rp => lv_tableIn X.hx X.hb hdg h1 h2 ho ht (kk ls hl H locs cells slots rp)
theorem v_lookup (X : gX K cc nL own nm ret fr lo) {dflt : Int} {ps : Array (Int × Int)} {len : Nat} {x : Int32} {off : Int} {tgt : Nat} (hdg : decode cc pc = .ok (.lookupswitch dflt ps, len)) (hp : (ps.toList.zip (ps.toList.drop 1)).all (fun (a, next) => a.1 < next.1) = true) (ho : Op.lookupswitch.offset ps.toList dflt x.toInt = off) (ht : (pc : Int) + off = (tgt : Int)) (kk : V K nL h tgt lv st) : V K nL h pc lv (.int x :: st) :=
  fun ls hl H locs cells slots rp => lv_lookup X.hx X.hb hdg hp ho ht (kk ls hl H locs cells slots rp)
theorem v_lookupK (X : gX K cc nL own nm ret fr lo) {dflt : Int} {ps : Array (Int × Int)} {len : Nat} {x k : Int32} {off : Int} {tgt : Nat} (hdg : decode cc pc = .ok (.lookupswitch dflt ps, len)) (hx : x = k) (hp : (ps.toList.zip (ps.toList.drop 1)).all (fun (a, next) => a.1 < next.1) = true) (ho : Op.lookupswitch.offset ps.toList dflt k.toInt = off) (ht : (pc : Int) + off = (tgt : Int)) (kk : V K nL h tgt lv st) : V K nL h pc lv (.int x :: st) := by
  subst hx
  exact v_lookup X hdg hp ho ht kk
theorem nar_rf {ty : FieldType} (x : Option Nat) (hty : refKind ty = true) : narrow ty (va_rf x) = va_rf x := by cases x <;> cases ty <;> first | rfl | cases hty
theorem fits_rf {ty : FieldType} (x : Option Nat) (hty : refKind ty = true) : fits ty (va_rf x) = true := by cases x <;> cases ty <;> first | rfl | cases hty
theorem gca_4 : gCa "BitingDoors$Cells" [10] := fun ci hc => by simp only [List.mem_cons, List.not_mem_nil, or_false] at hc; subst hc; exact ⟨_, rfl, Or.inl rfl⟩
theorem gca_5 : gCa "BitingDoors$Door" [9] := fun ci hc => by simp only [List.mem_cons, List.not_mem_nil, or_false] at hc; subst hc; exact ⟨_, rfl, Or.inl rfl⟩
theorem gca_7 : gCa "BitingDoors$Walker" [2] := fun ci hc => by simp only [List.mem_cons, List.not_mem_nil, or_false] at hc; subst hc; exact ⟨_, rfl, Or.inl rfl⟩
theorem gca_8 : gCa "BitingDoors$Day" [4] := fun ci hc => by simp only [List.mem_cons, List.not_mem_nil, or_false] at hc; subst hc; exact ⟨_, rfl, Or.inl rfl⟩
theorem gca_6 : gCa "BitingDoors$Act" [11, 12, 13, 14] := fun ci hc => by
  simp only [List.mem_cons, List.not_mem_nil, or_false] at hc
  rcases hc with rfl | rfl | rfl | rfl <;> exact ⟨_, rfl, Or.inr (by decide)⟩
theorem gca_9 : gCa "BitingDoors$Cond" [15, 16, 17, 18, 19, 20] := fun ci hc => by
  simp only [List.mem_cons, List.not_mem_nil, or_false] at hc
  rcases hc with rfl | rfl | rfl | rfl | rfl | rfl <;> exact ⟨_, rfl, Or.inr (by decide)⟩
end
theorem gap_X1 {args : Array Value} {s : State} (hts : ∀ w ∈ lw_all, w.before args s = true) {D : va_G} {tys : List (ClassId × FieldType)} (hK : va_K D gCl tys s) : ∀ x y, x < 46 → y < 46 → x ≠ y → (D.2 0) x ≠ (D.2 0) y := va_apart (own := "") hts in_X1 tyX1 tyX1_ok nmX1 hK gCl_X1
theorem gap_X2 {args : Array Value} {s : State} (hts : ∀ w ∈ lw_all, w.before args s = true) {D : va_G} {tys : List (ClassId × FieldType)} (hK : va_K D gCl tys s) : ∀ x y, x < 8 → y < 8 → x ≠ y → (D.2 1) x ≠ (D.2 1) y := va_apart (own := "") hts in_X2 tyX2 tyX2_ok nmX2 hK gCl_X2
theorem gap_X3 {args : Array Value} {s : State} (hts : ∀ w ∈ lw_all, w.before args s = true) {D : va_G} {tys : List (ClassId × FieldType)} (hK : va_K D gCl tys s) : ∀ x y, x < 6 → y < 6 → x ≠ y → (D.2 2) x ≠ (D.2 2) y := va_apart (own := "") hts in_X3 tyX3 tyX3_ok nmX3 hK gCl_X3
theorem gap_X4 {args : Array Value} {s : State} (hts : ∀ w ∈ lw_all, w.before args s = true) {D : va_G} {tys : List (ClassId × FieldType)} (hK : va_K D gCl tys s) : ∀ x y, x < 9 → y < 9 → x ≠ y → (D.2 3) x ≠ (D.2 3) y := va_apart (own := "") hts in_X4 tyX4 tyX4_ok nmX4 hK gCl_X4
theorem gap_X5 {args : Array Value} {s : State} (hts : ∀ w ∈ lw_all, w.before args s = true) {D : va_G} {tys : List (ClassId × FieldType)} (hK : va_K D gCl tys s) : ∀ x y, x < 2 → y < 2 → x ≠ y → (D.2 4) x ≠ (D.2 4) y := va_apart (own := "") hts in_X5 tyX5 tyX5_ok nmX5 hK gCl_X5
theorem gap_X10 {args : Array Value} {s : State} (hts : ∀ w ∈ lw_all, w.before args s = true) {D : va_G} {tys : List (ClassId × FieldType)} (hK : va_K D gCl tys s) : ∀ x y, x < 64 → y < 64 → x ≠ y → (D.2 8) x ≠ (D.2 8) y := va_apart (own := "") hts in_X10 tyX10 tyX10_ok nmX10 hK gCl_X10
theorem gap_X11 {args : Array Value} {s : State} (hts : ∀ w ∈ lw_all, w.before args s = true) {D : va_G} {tys : List (ClassId × FieldType)} (hK : va_K D gCl tys s) : ∀ x y, x < 12 → y < 12 → x ≠ y → (D.2 9) x ≠ (D.2 9) y := va_apart (own := "") hts in_X11 tyX11 tyX11_ok nmX11 hK gCl_X11
theorem gap_X12 {args : Array Value} {s : State} (hts : ∀ w ∈ lw_all, w.before args s = true) {D : va_G} {tys : List (ClassId × FieldType)} (hK : va_K D gCl tys s) : ∀ x y, x < 5 → y < 5 → x ≠ y → (D.2 10) x ≠ (D.2 10) y := va_apart (own := "") hts in_X12 tyX12 tyX12_ok nmX12 hK gCl_X12
theorem gap_X14 {args : Array Value} {s : State} (hts : ∀ w ∈ lw_all, w.before args s = true) {D : va_G} {tys : List (ClassId × FieldType)} (hK : va_K D gCl tys s) : ∀ x y, x < 2 → y < 2 → x ≠ y → (D.2 11) x ≠ (D.2 11) y := va_apart (own := "") hts in_X14 tyX14 tyX14_ok nmX14 hK gCl_X14
theorem gap_X16 {args : Array Value} {s : State} (hts : ∀ w ∈ lw_all, w.before args s = true) {D : va_G} {tys : List (ClassId × FieldType)} (hK : va_K D gCl tys s) : ∀ x y, x < 1 → y < 1 → x ≠ y → (D.2 12) x ≠ (D.2 12) y := va_apart (own := "") hts in_X16 tyX16 tyX16_ok nmX16 hK gCl_X16
theorem gap_X17 {args : Array Value} {s : State} (hts : ∀ w ∈ lw_all, w.before args s = true) {D : va_G} {tys : List (ClassId × FieldType)} (hK : va_K D gCl tys s) : ∀ x y, x < 1 → y < 1 → x ≠ y → (D.2 13) x ≠ (D.2 13) y := va_apart (own := "") hts in_X17 tyX17 tyX17_ok nmX17 hK gCl_X17
theorem gap_X18 {args : Array Value} {s : State} (hts : ∀ w ∈ lw_all, w.before args s = true) {D : va_G} {tys : List (ClassId × FieldType)} (hK : va_K D gCl tys s) : ∀ x y, x < 1 → y < 1 → x ≠ y → (D.2 14) x ≠ (D.2 14) y := va_apart (own := "") hts in_X18 tyX18 tyX18_ok nmX18 hK gCl_X18
theorem gap_X20 {args : Array Value} {s : State} (hts : ∀ w ∈ lw_all, w.before args s = true) {D : va_G} {tys : List (ClassId × FieldType)} (hK : va_K D gCl tys s) : ∀ x y, x < 1 → y < 1 → x ≠ y → (D.2 15) x ≠ (D.2 15) y := va_apart (own := "") hts in_X20 tyX20 tyX20_ok nmX20 hK gCl_X20
theorem gap_X21 {args : Array Value} {s : State} (hts : ∀ w ∈ lw_all, w.before args s = true) {D : va_G} {tys : List (ClassId × FieldType)} (hK : va_K D gCl tys s) : ∀ x y, x < 1 → y < 1 → x ≠ y → (D.2 16) x ≠ (D.2 16) y := va_apart (own := "") hts in_X21 tyX21 tyX21_ok nmX21 hK gCl_X21
theorem gap_X22 {args : Array Value} {s : State} (hts : ∀ w ∈ lw_all, w.before args s = true) {D : va_G} {tys : List (ClassId × FieldType)} (hK : va_K D gCl tys s) : ∀ x y, x < 1 → y < 1 → x ≠ y → (D.2 17) x ≠ (D.2 17) y := va_apart (own := "") hts in_X22 tyX22 tyX22_ok nmX22 hK gCl_X22
theorem gap_X23 {args : Array Value} {s : State} (hts : ∀ w ∈ lw_all, w.before args s = true) {D : va_G} {tys : List (ClassId × FieldType)} (hK : va_K D gCl tys s) : ∀ x y, x < 3 → y < 3 → x ≠ y → (D.2 18) x ≠ (D.2 18) y := va_apart (own := "") hts in_X23 tyX23 tyX23_ok nmX23 hK gCl_X23
theorem gap_X24 {args : Array Value} {s : State} (hts : ∀ w ∈ lw_all, w.before args s = true) {D : va_G} {tys : List (ClassId × FieldType)} (hK : va_K D gCl tys s) : ∀ x y, x < 2 → y < 2 → x ≠ y → (D.2 19) x ≠ (D.2 19) y := va_apart (own := "") hts in_X24 tyX24 tyX24_ok nmX24 hK gCl_X24
theorem gap_X25 {args : Array Value} {s : State} (hts : ∀ w ∈ lw_all, w.before args s = true) {D : va_G} {tys : List (ClassId × FieldType)} (hK : va_K D gCl tys s) : ∀ x y, x < 2 → y < 2 → x ≠ y → (D.2 20) x ≠ (D.2 20) y := va_apart (own := "") hts in_X25 tyX25 tyX25_ok nmX25 hK gCl_X25
theorem gap_J9 {args : Array Value} {s : State} (hts : ∀ w ∈ lw_all, w.before args s = true) {D : va_G} {tys : List (ClassId × FieldType)} (hK : va_K D gCl tys s) : ∀ x y, x < 6 → y < 6 → x ≠ y → (D.2 21) x ≠ (D.2 21) y := va_apart (own := "") hts in_J9 tyJ9 tyJ9_ok nmJ9 hK gCl_J9
theorem Mo.le {β : Type} {x : Mo β} {h h' : gH} {r : β} (e : x.1 h = some (r, h')) : gLe h h' := x.2 _ _ _ e
