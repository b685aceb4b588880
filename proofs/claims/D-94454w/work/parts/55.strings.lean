set_option maxRecDepth 100000
/-- the String constant i: its length, its letters -/
def strLen (i : Nat) : Mo Int32 := Mo.rd fun _ => if i < 43 then some (nI (gSC.getD i []).length) else none
def strAt (i : Nat) (k : Int32) : Mo Int32 := Mo.rd fun _ => if i < 43 ∧ gIn k (gSC.getD i []).length = true then some ((gSC.getD i []).getD k.toNatClampNeg 0) else none
def astS (a : Nat) (i : Int32) (x : Nat) : Mo Unit := Mo.wr fun h => match h.1 a with
  | .inl (k, n, .inr (.inr f)) => if k = 10 ∧ gIn i n = true ∧ x < 43 then some (va_up h.1 a (.inl (k, n, .inr (.inr (va_up f i.toNatClampNeg (some x)))))) else none
  | _ => none
def strOk {α : Type} (i : Nat) (x : α) : Mo α := Mo.rd fun _ => if i < 43 then some x else none
section
variable {K : gK} {cc : ByteArray} {nL : Nat} {own nm : String} {ret : Option FieldType} {fr lo : Nat} {h : gH} {pc : Nat} {lv : List (Nat × Value)} {st : List Value} {β : Type} {r : β} {h' : gH}
variable {α : Type} {f : Mo α} {g : α → Mo β} {y : MethodName} {cy : ByteArray} {nLy fry loy : Nat} {rety : Option FieldType} {ov : α → Option Value}
theorem v_getsC (X : gX K cc nL own nm ret fr lo) {index : Nat} (hl0 : Cond.fieldLink own index "java/lang/String" "COMPACT_STRINGS" "Z" ∈ lw_all) (hdg : decode cc pc = .ok (.getstatic index, 3)) (k : V K nL h (pc + 3) lv (.int 1 :: st)) : V K nL h pc lv st :=
  fun ls hl H locs cells slots rp => va_gets X.hx X.hb X.hW.2.2.2.2.2.2.2.1 rp.2.1 X.hown (X.hts _ hl0) (fun _ x => x) hdg (k ls hl H locs cells slots rp)
theorem v_getsF (X : gX K cc nL own nm ret fr lo) {index : Nat} (hl0 : Cond.fieldLink own index "jdk/internal/util/Preconditions" "SIOOBE_FORMATTER" "Ljava/util/function/BiFunction;" ∈ lw_all) (hdg : decode cc pc = .ok (.getstatic index, 3)) (k1 : V K nL h (pc + 3) lv (.null :: st)) (k2 : ∀ t : Nat, V K nL h (pc + 3) lv (.ref t :: st)) : V K nL h pc lv st := by
  intro ls hl H locs cells slots rp
  rcases X.hW.2.2.2.2.2.2.2.2.2.2.1 with z | ⟨t, z⟩
  · exact va_gets X.hx X.hb z rp.2.1 X.hown (X.hts _ hl0) (fun _ x => x) hdg (k1 ls hl H locs cells slots rp)
  · exact va_gets X.hx X.hb z rp.2.1 X.hown (X.hts _ hl0) (fun _ x => x) hdg (k2 t ls hl H locs cells slots rp)
theorem v_coder (X : gX K cc nL own nm ret fr lo) {i : Nat} (hi : i < 43) {index : Nat} (hl0 : Cond.fieldLink own index "java/lang/String" "coder" "B" ∈ lw_all) (hdg : decode cc pc = .ok (.getfield index, 3)) (k : V K nL h (pc + 3) lv (.int 0 :: st)) : V K nL h pc lv (.ref ((kG K).2.2.2.1 i) :: st) :=
  fun ls hl H locs cells slots rp => vk_getf X.hx X.hb (X.hW.2.2.2.2.2.1 i hi).2.1 rp.2.1 X.hown (X.hts _ hl0) (fun _ x => x) hdg (k ls hl H locs cells slots rp)
theorem v_value (X : gX K cc nL own nm ret fr lo) {i : Nat} (hi : i < 43) {index : Nat} (hl0 : Cond.fieldLink own index "java/lang/String" "value" "[B" ∈ lw_all) (hdg : decode cc pc = .ok (.getfield index, 3)) (k : V K nL h (pc + 3) lv (.ref ((kG K).2.2.2.2.1 i) :: st)) : V K nL h pc lv (.ref ((kG K).2.2.2.1 i) :: st) :=
  fun ls hl H locs cells slots rp => vk_getf X.hx X.hb (X.hW.2.2.2.2.2.1 i hi).2.2.1 rp.2.1 X.hown (X.hts _ hl0) (fun _ x => x) hdg (k ls hl H locs cells slots rp)
theorem v_slen (X : gX K cc nL own nm ret fr lo) {i : Nat} (hi : i < 43) (hdg : decode cc pc = .ok (.arraylength, 1)) (k : V K nL h (pc + 1) lv (.int (nI (gSC.getD i []).length) :: st)) : V K nL h pc lv (.ref ((kG K).2.2.2.2.1 i) :: st) :=
  fun ls hl H locs cells slots rp => va_tlen X.hx X.hb (X.hW.2.2.2.2.2.1 i hi).2.2.2 rp.2.1 rfl hdg (k ls hl H locs cells slots rp)
theorem v_sget (X : gX K cc nL own nm ret fr lo) {i : Nat} (hi : i < 43) {j : Int32} (hj : vp_in j (gSC.getD i []).length) (hdg : decode cc pc = .ok (.baload, 1)) (k : V K nL h (pc + 1) lv (.int ((gSC.getD i []).getD j.toNatClampNeg 0) :: st)) : V K nL h pc lv (.int j :: .ref ((kG K).2.2.2.2.1 i) :: st) :=
  fun ls hl H locs cells slots rp => va_tb X.hx X.hb (X.hW.2.2.2.2.2.1 i hi).2.2.2 rp.2.1 hj rfl hdg (k ls hl H locs cells slots rp)
theorem v_nret {ty : FieldType} (X : gX K cc nL own nm (some ty) fr lo) {x y : Int32} (hd : (Mo.pure x).1 h = some (y, kh1 K)) (hx : narrow ty (.int x) = .int x) (ho : ko K = .returned (some (.int y))) (hdg : decode cc pc = .ok (.ireturn, 1)) : V K nL h pc lv [.int x] := by
  obtain ⟨rfl, hh⟩ := Mo.pure_some hd
  intro ls hl H locs cells slots rp
  have hlk := X.hlk
  exact W_mono (gMQ_of ho (by rw [hh]; exact rp.2.2.1) (by rw [hh]; exact rp.2.2.2)) (W.zret X.hx X.hb X.hret hx (fun t ht hW => ⟨rfl, rfl, by rw [hh]; exact (gW_end X rp ht hW).1, (gW_end X rp ht hW).2⟩) rp.2.1.2.2 hdg hlk)
/-- a call of an instance method of String on a String constant -/
theorem v_callStr (X : gX K cc nL own nm ret fr lo) {i : Nat} (hi : i < 43) {As : List Value} (hd : (Mo.bind f g).1 h = some (r, h')) (hle : gLe h' (kh1 K)) (ct : gCt (kG K) y cy nLy rety fry loy (.ref ((kG K).2.2.2.1 i) :: As) f ov) {index n : Nat} (hw : GoodIn lw_all (wsV own index "java/lang/String" y (ws_ y cy nLy rety))) (hdn : y.cls = "java/lang/String" ∧ y.cls ≠ "java/lang/invoke/MethodHandle" ∧ y.cls ≠ "java/lang/invoke/VarHandle" ∧ (parseMethodDescriptor y.desc).map (fun d => d.parameters.length) = some n) (hn : As.length = n)
    (hR : fry + 1 ≤ fr ∧ 8 + (nLy + 11) + loy ≤ lo) {st0 : List Value} (hst : st0 = As.reverse ++ .ref ((kG K).2.2.2.1 i) :: st) (hW8 : (st.map fun v => v.category).sum ≤ 8) (hdg : decode cc pc = .ok (.invokevirtual index, 3))
    (kk : ∀ (b : α) (h1 : gH), (g b).1 h1 = some (r, h') → V K nL h1 (pc + 3) lv ((ov b).toList ++ st)) : V K nL h pc lv st0 := by
  refine v_back X hd hle (a := (Value.ref ((kG K).2.2.2.1 i) :: As).toArray) (fun ls H locs cells slots b h1 hls rp e1 hrm => ?_) kk
  have hR' : fry + 1 ≤ (kR K).frames ∧ 8 + (nLy + 11) + loy ≤ (kR K).locals := by rw [X.hR.1, X.hR.2.1]; exact hR
  have pre := gPre X rp (.ref ((kG K).2.2.2.1 i) :: As)
  have hrec : ∃ cell : Cell, H[(kG K).2.2.2.1 i]? = some cell ∧ cell.vm.isStatics = false ∧ (ks K).vm.findClass "java/lang/String" = some cell.cls := by
    obtain ⟨cell, h1, h2, h3, -⟩ := (X.hW.2.2.2.2.2.1 i hi).1.kept rp.2.1.2.1
    exact ⟨cell, h1, h2, h3⟩
  exact va_runV (As := As) ⟨X.hx, X.hb, X.hml, X.hown, X.hts⟩ (ct (kl K) X.hfl h b h1 e1) (cwV n X.hts hw rfl rfl rfl hdn hR') ⟨pre.1, hrec, pre.2⟩ rfl hn hls hst (lv_room hW8) hdg hrm
theorem strLen_some {i : Nat} {x : Int32} {h1 : gH} (e : (strLen i).1 h = some (x, h1)) : i < 43 ∧ x = nI (gSC.getD i []).length ∧ h1 = h := by
  obtain ⟨e3, rfl⟩ := Mo.rd_some e
  by_cases w : i < 43
  · rw [if_pos w] at e3; cases e3; exact ⟨w, rfl, rfl⟩
  · rw [if_neg w] at e3; cases e3
theorem strOk_some {i : Nat} {x z : α} {h1 : gH} (e : (strOk i x).1 h = some (z, h1)) : i < 43 ∧ z = x ∧ h1 = h := by
  obtain ⟨e3, rfl⟩ := Mo.rd_some e
  by_cases w : i < 43
  · rw [if_pos w] at e3; cases e3; exact ⟨w, rfl, rfl⟩
  · rw [if_neg w] at e3; cases e3
theorem strAt_some {i : Nat} {j x : Int32} {h1 : gH} (e : (strAt i j).1 h = some (x, h1)) : i < 43 ∧ vp_in j (gSC.getD i []).length ∧ x = (gSC.getD i []).getD j.toNatClampNeg 0 ∧ h1 = h := by
  obtain ⟨e3, rfl⟩ := Mo.rd_some e
  by_cases w : i < 43 ∧ gIn j (gSC.getD i []).length = true
  · rw [if_pos w] at e3; cases e3; exact ⟨w.1, gIn_in w.2, rfl, rfl⟩
  · rw [if_neg w] at e3; cases e3
theorem v_ldcS (X : gX K cc nL own nm ret fr lo) (i : Nat) (hi : i < 43) {index : Nat} {tx : String} (hq : gSR.getD i ("", 0, "") = (own, index, tx)) (hdg : decode cc pc = .ok (.ldc index, 2)) (k : V K nL h (pc + 2) lv (.ref ((kG K).2.2.2.1 i) :: st)) : V K nL h pc lv st := by
  intro ls hl H locs cells slots rp
  have z := X.hW.2.2.2.2.2.2.1 i hi
  rw [hq] at z
  exact va_ldcS X.hx X.hb X.hown z hdg (k ls hl H locs cells slots rp)
end
theorem gSC_narrow : ∀ l ∈ gSC, ∀ c ∈ l, ((c &&& 255).toUInt32 % 65536).toInt32 = c ∧ narrow .char (.int c) = .int c := by decide +kernel
theorem gSC_nar {i j : Nat} (hi : i < 43) (hj : j < (gSC.getD i []).length) : ((((gSC.getD i []).getD j 0) &&& 255).toUInt32 % 65536).toInt32 = (gSC.getD i []).getD j 0 ∧ narrow .char (.int ((gSC.getD i []).getD j 0)) = .int ((gSC.getD i []).getD j 0) := by
  have hl : gSC.length = 43 := by decide +kernel
  have e1 : gSC.getD i [] = gSC[i]'(by omega) := by rw [List.getD_eq_getElem?_getD, List.getElem?_eq_getElem (by omega)]; rfl
  have e2 : (gSC.getD i []).getD j 0 = (gSC.getD i [])[j]'hj := by rw [List.getD_eq_getElem?_getD, List.getElem?_eq_getElem hj]; rfl
  rw [e2]
  exact gSC_narrow _ (by rw [e1]; exact List.getElem_mem _) _ (List.getElem_mem _)
def dkwJ4_checkIndex_0 : List UInt8 := [26, 155, 0, 8, 26, 27, 161, 0, 10, 44, 26, 27, 184, 0, 95, 191, 26, 172]
abbrev dktJ4_checkIndex_0 : List UInt8 := dkwJ4_checkIndex_0 ++ []
theorem dksJ4_checkIndex_0 : cJ4_checkIndex.data.toList.drop 0 = dktJ4_checkIndex_0 := by decide +kernel
theorem dJ4_checkIndex_0 : decode cJ4_checkIndex 0 = .ok (.iload_n 0, 1) := dk_26 (dk_at dksJ4_checkIndex_0 0 rfl rfl)
theorem dJ4_checkIndex_1 : decode cJ4_checkIndex 1 = .ok (.ifCond .lt 8, 3) := dk_155 0 8 (dk_at dksJ4_checkIndex_0 1 rfl rfl)
theorem dJ4_checkIndex_4 : decode cJ4_checkIndex 4 = .ok (.iload_n 0, 1) := dk_26 (dk_at dksJ4_checkIndex_0 4 rfl rfl)
theorem dJ4_checkIndex_5 : decode cJ4_checkIndex 5 = .ok (.iload_n 1, 1) := dk_27 (dk_at dksJ4_checkIndex_0 5 rfl rfl)
theorem dJ4_checkIndex_6 : decode cJ4_checkIndex 6 = .ok (.if_icmp .lt 10, 3) := dk_161 0 10 (dk_at dksJ4_checkIndex_0 6 rfl rfl)
theorem dJ4_checkIndex_9 : decode cJ4_checkIndex 9 = .ok (.aload_n 2, 1) := dk_44 (dk_at dksJ4_checkIndex_0 9 rfl rfl)
theorem dJ4_checkIndex_10 : decode cJ4_checkIndex 10 = .ok (.iload_n 0, 1) := dk_26 (dk_at dksJ4_checkIndex_0 10 rfl rfl)
theorem dJ4_checkIndex_11 : decode cJ4_checkIndex 11 = .ok (.iload_n 1, 1) := dk_27 (dk_at dksJ4_checkIndex_0 11 rfl rfl)
theorem dJ4_checkIndex_12 : decode cJ4_checkIndex 12 = .ok (.invokestatic 95, 3) := dk_184 0 95 (dk_at dksJ4_checkIndex_0 12 rfl rfl)
theorem dJ4_checkIndex_15 : decode cJ4_checkIndex 15 = .ok (.athrow, 1) := dk_191 (dk_at dksJ4_checkIndex_0 15 rfl rfl)
theorem dJ4_checkIndex_16 : decode cJ4_checkIndex 16 = .ok (.iload_n 0, 1) := dk_26 (dk_at dksJ4_checkIndex_0 16 rfl rfl)
theorem dJ4_checkIndex_17 : decode cJ4_checkIndex 17 = .ok (.ireturn, 1) := dk_172 (dk_at dksJ4_checkIndex_0 17 rfl rfl)
noncomputable def M_J4_checkIndex (p1 p2 : Int32) : Mo Int32 := if p1 < 0 then Mo.fail else if p1 < p2 then Mo.pure p1 else Mo.fail
theorem ct_J4_checkIndex_n (G : gG) (p1 p2 : Int32) : gCt G yJ4_checkIndex cJ4_checkIndex 3 (some .int) 0 0 [.int p1, .int p2, .null] (M_J4_checkIndex p1 p2) (fun x : Int32 => some (.int x)) := by
  refine gCt.of (by decide) (Nat.le_of_ble_eq_true rfl) (fun K r hG X hd ho => ?_)
  subst hG
  have X : gX K cJ4_checkIndex 3 "jdk/internal/util/Preconditions" "checkIndex" (some .int) 0 0 := X
  show V K 3 (kh0 K) 0 [(0, .int p1), (1, .int p2), (2, .null)] []
  generalize kh0 K = h at hd ⊢
  unfold M_J4_checkIndex at hd
  refine v_iload_n X dJ4_checkIndex_0 0 0 rfl rfl ?_
  refine v_if_lt (tgt := 9) X dJ4_checkIndex_1 (by decide) (fun q => ?_) (fun q => ?_)
  · have hd := ite_t q hd
    cases hd
  · have hd := ite_f q hd
    refine v_iload_n X dJ4_checkIndex_4 0 0 rfl rfl ?_
    refine v_iload_n X dJ4_checkIndex_5 1 1 rfl rfl ?_
    refine v_icmp_lt (tgt := 16) X dJ4_checkIndex_6 (by decide) (fun q => ?_) (fun q => ?_)
    · have hd := ite_t q hd
      refine v_iload_n X dJ4_checkIndex_16 0 0 rfl rfl ?_
      exact v_iret X hd ho dJ4_checkIndex_17
    · have hd := ite_f q hd
      cases hd
theorem ct_J4_checkIndex_r (G : gG) (p1 p2 : Int32) (t : Nat) : gCt G yJ4_checkIndex cJ4_checkIndex 3 (some .int) 0 0 [.int p1, .int p2, .ref t] (M_J4_checkIndex p1 p2) (fun x : Int32 => some (.int x)) := by
  refine gCt.of (by decide) (Nat.le_of_ble_eq_true rfl) (fun K r hG X hd ho => ?_)
  subst hG
  have X : gX K cJ4_checkIndex 3 "jdk/internal/util/Preconditions" "checkIndex" (some .int) 0 0 := X
  show V K 3 (kh0 K) 0 [(0, .int p1), (1, .int p2), (2, .ref t)] []
  generalize kh0 K = h at hd ⊢
  unfold M_J4_checkIndex at hd
  refine v_iload_n X dJ4_checkIndex_0 0 0 rfl rfl ?_
  refine v_if_lt (tgt := 9) X dJ4_checkIndex_1 (by decide) (fun q => ?_) (fun q => ?_)
  · have hd := ite_t q hd
    cases hd
  · have hd := ite_f q hd
    refine v_iload_n X dJ4_checkIndex_4 0 0 rfl rfl ?_
    refine v_iload_n X dJ4_checkIndex_5 1 1 rfl rfl ?_
    refine v_icmp_lt (tgt := 16) X dJ4_checkIndex_6 (by decide) (fun q => ?_) (fun q => ?_)
    · have hd := ite_t q hd
      refine v_iload_n X dJ4_checkIndex_16 0 0 rfl rfl ?_
      exact v_iret X hd ho dJ4_checkIndex_17
    · have hd := ite_f q hd
      cases hd
def dkwJ2_checkIndex_0 : List UInt8 := [26, 27, 178, 4, 29, 184, 4, 35, 87, 177]
abbrev dktJ2_checkIndex_0 : List UInt8 := dkwJ2_checkIndex_0 ++ []
theorem dksJ2_checkIndex_0 : cJ2_checkIndex.data.toList.drop 0 = dktJ2_checkIndex_0 := by decide +kernel
theorem dJ2_checkIndex_0 : decode cJ2_checkIndex 0 = .ok (.iload_n 0, 1) := dk_26 (dk_at dksJ2_checkIndex_0 0 rfl rfl)
theorem dJ2_checkIndex_1 : decode cJ2_checkIndex 1 = .ok (.iload_n 1, 1) := dk_27 (dk_at dksJ2_checkIndex_0 1 rfl rfl)
theorem dJ2_checkIndex_2 : decode cJ2_checkIndex 2 = .ok (.getstatic 1053, 3) := dk_178 4 29 (dk_at dksJ2_checkIndex_0 2 rfl rfl)
theorem dJ2_checkIndex_5 : decode cJ2_checkIndex 5 = .ok (.invokestatic 1059, 3) := dk_184 4 35 (dk_at dksJ2_checkIndex_0 5 rfl rfl)
theorem dJ2_checkIndex_8 : decode cJ2_checkIndex 8 = .ok (.pop, 1) := dk_87 (dk_at dksJ2_checkIndex_0 8 rfl rfl)
theorem dJ2_checkIndex_9 : decode cJ2_checkIndex 9 = .ok (.return_, 1) := dk_177 (dk_at dksJ2_checkIndex_0 9 rfl rfl)
theorem dn_J4_checkIndex : yJ4_checkIndex.cls ≠ "java/lang/invoke/MethodHandle" ∧ yJ4_checkIndex.cls ≠ "java/lang/invoke/VarHandle" ∧ (parseMethodDescriptor yJ4_checkIndex.desc).map (fun d => d.parameters.length) = some 3 := by decide +kernel
theorem dn_J2_checkIndex : yJ2_checkIndex.cls ≠ "java/lang/invoke/MethodHandle" ∧ yJ2_checkIndex.cls ≠ "java/lang/invoke/VarHandle" ∧ (parseMethodDescriptor yJ2_checkIndex.desc).map (fun d => d.parameters.length) = some 2 := by decide +kernel
noncomputable def M_J2_checkIndex (p1 p2 : Int32) : Mo Unit := Mo.bind (M_J4_checkIndex p1 p2) (fun _ => Mo.pure ())
theorem ct_J2_checkIndex (G : gG) (p1 p2 : Int32) : gCt G yJ2_checkIndex cJ2_checkIndex 2 none 1 22 [.int p1, .int p2] (M_J2_checkIndex p1 p2) (fun _ : Unit => none) := by
  refine gCt.of (by decide) (Nat.le_of_ble_eq_true rfl) (fun K r hG X hd ho => ?_)
  subst hG
  have X : gX K cJ2_checkIndex 2 "java/lang/String" "checkIndex" none 1 22 := X
  have hle : gLe (kh1 K) (kh1 K) := gLe.rf
  show V K 2 (kh0 K) 0 [(0, .int p1), (1, .int p2)] []
  generalize kh0 K = h at hd ⊢
  unfold M_J2_checkIndex at hd
  refine v_iload_n X dJ2_checkIndex_0 0 0 rfl rfl ?_
  refine v_iload_n X dJ2_checkIndex_1 1 1 rfl rfl ?_
  refine v_getsF X q735 dJ2_checkIndex_2 ?_ (fun t => ?_)
  · refine v_callS X hd hle (ct_J4_checkIndex_n _ p1 p2) (lw_S q737 q738 q123 q739) dn_J4_checkIndex rfl ⟨by decide, by decide⟩ rfl (Nat.le_of_ble_eq_true rfl) dJ2_checkIndex_5 (fun v h hd => ?_)
    refine v_pop X dJ2_checkIndex_8 rfl ?_
    exact v_vret X hd ho dJ2_checkIndex_9
  · refine v_callS X hd hle (ct_J4_checkIndex_r _ p1 p2 t) (lw_S q737 q738 q123 q739) dn_J4_checkIndex rfl ⟨by decide, by decide⟩ rfl (Nat.le_of_ble_eq_true rfl) dJ2_checkIndex_5 (fun v h hd => ?_)
    refine v_pop X dJ2_checkIndex_8 rfl ?_
    exact v_vret X hd ho dJ2_checkIndex_9
theorem ckI_of {p1 : Int32} {n : Nat} (hn : n < 2147483648) (hj : vp_in p1 n) {h : gH} : (M_J2_checkIndex p1 (nI n)).1 h = some ((), h) := by
  have h0 : ¬ p1 < 0 := fun z => hj (Or.inl z)
  have h1 : p1 < nI n := by
    have a : p1.toNatClampNeg < n := Nat.not_le.mp fun z => hj (Or.inr z)
    rw [Int32.lt_iff_toInt_lt]
    have e : (nI n).toInt = n := nI_toInt (by omega)
    have b : p1.toInt.toNat < n := a
    rw [e]; omega
  unfold M_J2_checkIndex M_J4_checkIndex
  rw [if_neg h0, if_pos h1]
  rfl
def dkwJ3_charAt_0 : List UInt8 := [27, 42, 190, 184, 0, 9, 42, 27, 51, 17, 0, 255, 126, 146, 172]
abbrev dktJ3_charAt_0 : List UInt8 := dkwJ3_charAt_0 ++ []
theorem dksJ3_charAt_0 : cJ3_charAt.data.toList.drop 0 = dktJ3_charAt_0 := by decide +kernel
theorem dJ3_charAt_0 : decode cJ3_charAt 0 = .ok (.iload_n 1, 1) := dk_27 (dk_at dksJ3_charAt_0 0 rfl rfl)
theorem dJ3_charAt_1 : decode cJ3_charAt 1 = .ok (.aload_n 0, 1) := dk_42 (dk_at dksJ3_charAt_0 1 rfl rfl)
theorem dJ3_charAt_2 : decode cJ3_charAt 2 = .ok (.arraylength, 1) := dk_190 (dk_at dksJ3_charAt_0 2 rfl rfl)
theorem dJ3_charAt_3 : decode cJ3_charAt 3 = .ok (.invokestatic 9, 3) := dk_184 0 9 (dk_at dksJ3_charAt_0 3 rfl rfl)
theorem dJ3_charAt_6 : decode cJ3_charAt 6 = .ok (.aload_n 0, 1) := dk_42 (dk_at dksJ3_charAt_0 6 rfl rfl)
theorem dJ3_charAt_7 : decode cJ3_charAt 7 = .ok (.iload_n 1, 1) := dk_27 (dk_at dksJ3_charAt_0 7 rfl rfl)
theorem dJ3_charAt_8 : decode cJ3_charAt 8 = .ok (.baload, 1) := dk_51 (dk_at dksJ3_charAt_0 8 rfl rfl)
theorem dJ3_charAt_9 : decode cJ3_charAt 9 = .ok (.sipush 255, 3) := dk_17 0 255 (dk_at dksJ3_charAt_0 9 rfl rfl)
theorem dJ3_charAt_12 : decode cJ3_charAt 12 = .ok (.iand, 1) := dk_126 (dk_at dksJ3_charAt_0 12 rfl rfl)
theorem dJ3_charAt_13 : decode cJ3_charAt 13 = .ok (.i2c, 1) := dk_146 (dk_at dksJ3_charAt_0 13 rfl rfl)
theorem dJ3_charAt_14 : decode cJ3_charAt 14 = .ok (.ireturn, 1) := dk_172 (dk_at dksJ3_charAt_0 14 rfl rfl)
theorem dn_J3_charAt : yJ3_charAt.cls ≠ "java/lang/invoke/MethodHandle" ∧ yJ3_charAt.cls ≠ "java/lang/invoke/VarHandle" ∧ (parseMethodDescriptor yJ3_charAt.desc).map (fun d => d.parameters.length) = some 2 := by decide +kernel
theorem gSC_len {i : Nat} : (gSC.getD i []).length < 2147483648 := by
  have hl : ∀ l ∈ gSC, l.length < 2147483648 := by decide +kernel
  by_cases hi : i < gSC.length
  · have e1 : gSC.getD i [] = gSC[i]'hi := by rw [List.getD_eq_getElem?_getD, List.getElem?_eq_getElem hi]; rfl
    rw [e1]; exact hl _ (List.getElem_mem _)
  · have e1 : gSC.getD i [] = [] := by rw [List.getD_eq_getElem?_getD, List.getElem?_eq_none (Nat.not_lt.mp hi)]; rfl
    rw [e1]; decide
theorem ct_J3_charAt (G : gG) (i : Nat) (p2 : Int32) : gCt G yJ3_charAt cJ3_charAt 2 (some .char) 2 43 [.ref (G.2.2.2.2.1 i), .int p2] (strAt i p2) (fun x : Int32 => some (.int x)) := by
  refine gCt.of (by decide) (Nat.le_of_ble_eq_true rfl) (fun K r hG X hd ho => ?_)
  subst hG
  have X : gX K cJ3_charAt 2 "java/lang/StringLatin1" "charAt" (some .char) 2 43 := X
  have hle : gLe (kh1 K) (kh1 K) := gLe.rf
  show V K 2 (kh0 K) 0 [(0, .ref ((kG K).2.2.2.2.1 i)), (1, .int p2)] []
  obtain ⟨hi, hj, rfl, hh⟩ := strAt_some hd
  have hn := gSC_nar (j := p2.toNatClampNeg) hi (Nat.not_le.mp fun z => hj (Or.inr z))
  refine v_iload_n X dJ3_charAt_0 1 1 rfl rfl ?_
  refine v_aload_n X dJ3_charAt_1 0 0 rfl rfl ?_
  refine v_slen X hi dJ3_charAt_2 ?_
  have hd2 : (Mo.bind (M_J2_checkIndex p2 (nI (gSC.getD i []).length)) (fun _ => Mo.pure ())).1 (kh0 K) = some ((), kh1 K) := by
    rw [Mo.bind_of (ckI_of gSC_len hj), hh]; rfl
  refine v_callS X hd2 hle (ct_J2_checkIndex _ p2 _) (lw_S q732 q733 q121 q734) dn_J2_checkIndex rfl ⟨by decide, by decide⟩ rfl (Nat.le_of_ble_eq_true rfl) dJ3_charAt_3 (fun v h hd => ?_)
  obtain ⟨-, hh2⟩ := Mo.pure_some hd
  refine v_aload_n X dJ3_charAt_6 0 0 rfl rfl ?_
  refine v_iload_n X dJ3_charAt_7 1 1 rfl rfl ?_
  refine v_sget X hi hj dJ3_charAt_8 ?_
  refine v_sipush (v := 255) X dJ3_charAt_9 (by decide) ?_
  refine v_iand X dJ3_charAt_12 ?_
  refine v_i2c X dJ3_charAt_13 ?_
  rw [hn.1]
  exact v_nret X (by rw [← hh2]; rfl) hn.2 ho dJ3_charAt_14
def dkwJ2_isLatin1_0 : List UInt8 := [178, 0, 38, 153, 0, 14, 42, 180, 0, 15, 154, 0, 7, 4, 167, 0, 4, 3, 172]
abbrev dktJ2_isLatin1_0 : List UInt8 := dkwJ2_isLatin1_0 ++ []
theorem dksJ2_isLatin1_0 : cJ2_isLatin1.data.toList.drop 0 = dktJ2_isLatin1_0 := by decide +kernel
theorem dJ2_isLatin1_0 : decode cJ2_isLatin1 0 = .ok (.getstatic 38, 3) := dk_178 0 38 (dk_at dksJ2_isLatin1_0 0 rfl rfl)
theorem dJ2_isLatin1_3 : decode cJ2_isLatin1 3 = .ok (.ifCond .eq 14, 3) := dk_153 0 14 (dk_at dksJ2_isLatin1_0 3 rfl rfl)
theorem dJ2_isLatin1_6 : decode cJ2_isLatin1 6 = .ok (.aload_n 0, 1) := dk_42 (dk_at dksJ2_isLatin1_0 6 rfl rfl)
theorem dJ2_isLatin1_7 : decode cJ2_isLatin1 7 = .ok (.getfield 15, 3) := dk_180 0 15 (dk_at dksJ2_isLatin1_0 7 rfl rfl)
theorem dJ2_isLatin1_10 : decode cJ2_isLatin1 10 = .ok (.ifCond .ne 7, 3) := dk_154 0 7 (dk_at dksJ2_isLatin1_0 10 rfl rfl)
theorem dJ2_isLatin1_13 : decode cJ2_isLatin1 13 = .ok (.iconst 1, 1) := dk_4 (dk_at dksJ2_isLatin1_0 13 rfl rfl)
theorem dJ2_isLatin1_14 : decode cJ2_isLatin1 14 = .ok (.goto 4, 3) := dk_167 0 4 (dk_at dksJ2_isLatin1_0 14 rfl rfl)
theorem dJ2_isLatin1_17 : decode cJ2_isLatin1 17 = .ok (.iconst 0, 1) := dk_3 (dk_at dksJ2_isLatin1_0 17 rfl rfl)
theorem dJ2_isLatin1_18 : decode cJ2_isLatin1 18 = .ok (.ireturn, 1) := dk_172 (dk_at dksJ2_isLatin1_0 18 rfl rfl)
theorem dn_J2_isLatin1 : yJ2_isLatin1.cls ≠ "java/lang/invoke/MethodHandle" ∧ yJ2_isLatin1.cls ≠ "java/lang/invoke/VarHandle" ∧ (parseMethodDescriptor yJ2_isLatin1.desc).map (fun d => d.parameters.length) = some 0 := by decide +kernel
theorem ct_J2_isLatin1 (G : gG) (i : Nat) : gCt G yJ2_isLatin1 cJ2_isLatin1 1 (some .boolean) 0 0 [.ref (G.2.2.2.1 i)] (strOk i true) (fun x : Bool => some (.int (b2i x))) := by
  refine gCt.of (by decide) (Nat.le_of_ble_eq_true rfl) (fun K r hG X hd ho => ?_)
  subst hG
  have X : gX K cJ2_isLatin1 1 "java/lang/String" "isLatin1" (some .boolean) 0 0 := X
  show V K 1 (kh0 K) 0 [(0, .ref ((kG K).2.2.2.1 i))] []
  obtain ⟨hi, rfl, hh⟩ := strOk_some hd
  refine v_getsC X q719 dJ2_isLatin1_0 ?_
  refine v_if_eq (tgt := 17) X dJ2_isLatin1_3 (by decide) (fun q => absurd q (by decide)) (fun q => ?_)
  refine v_aload_n X dJ2_isLatin1_6 0 0 rfl rfl ?_
  refine v_coder X hi q2400 dJ2_isLatin1_7 ?_
  refine v_if_ne (tgt := 17) X dJ2_isLatin1_10 (by decide) (fun q => absurd rfl q) (fun q => ?_)
  refine v_iconst (v := 1) X dJ2_isLatin1_13 (by decide) ?_
  refine v_goto (tgt := 18) X dJ2_isLatin1_14 (by decide) ?_
  exact v_zret (b := true) X (by rw [hh]; rfl) rfl ho dJ2_isLatin1_18
def dkwJ2_coder_0 : List UInt8 := [178, 0, 38, 153, 0, 10, 42, 180, 0, 15, 167, 0, 4, 4, 172]
abbrev dktJ2_coder_0 : List UInt8 := dkwJ2_coder_0 ++ []
theorem dksJ2_coder_0 : cJ2_coder.data.toList.drop 0 = dktJ2_coder_0 := by decide +kernel
theorem dJ2_coder_0 : decode cJ2_coder 0 = .ok (.getstatic 38, 3) := dk_178 0 38 (dk_at dksJ2_coder_0 0 rfl rfl)
theorem dJ2_coder_3 : decode cJ2_coder 3 = .ok (.ifCond .eq 10, 3) := dk_153 0 10 (dk_at dksJ2_coder_0 3 rfl rfl)
theorem dJ2_coder_6 : decode cJ2_coder 6 = .ok (.aload_n 0, 1) := dk_42 (dk_at dksJ2_coder_0 6 rfl rfl)
theorem dJ2_coder_7 : decode cJ2_coder 7 = .ok (.getfield 15, 3) := dk_180 0 15 (dk_at dksJ2_coder_0 7 rfl rfl)
theorem dJ2_coder_10 : decode cJ2_coder 10 = .ok (.goto 4, 3) := dk_167 0 4 (dk_at dksJ2_coder_0 10 rfl rfl)
theorem dJ2_coder_13 : decode cJ2_coder 13 = .ok (.iconst 1, 1) := dk_4 (dk_at dksJ2_coder_0 13 rfl rfl)
theorem dJ2_coder_14 : decode cJ2_coder 14 = .ok (.ireturn, 1) := dk_172 (dk_at dksJ2_coder_0 14 rfl rfl)
theorem dn_J2_coder : yJ2_coder.cls ≠ "java/lang/invoke/MethodHandle" ∧ yJ2_coder.cls ≠ "java/lang/invoke/VarHandle" ∧ (parseMethodDescriptor yJ2_coder.desc).map (fun d => d.parameters.length) = some 0 := by decide +kernel
theorem ct_J2_coder (G : gG) (i : Nat) : gCt G yJ2_coder cJ2_coder 1 (some .byte) 0 0 [.ref (G.2.2.2.1 i)] (strOk i (0 : Int32)) (fun x : Int32 => some (.int x)) := by
  refine gCt.of (by decide) (Nat.le_of_ble_eq_true rfl) (fun K r hG X hd ho => ?_)
  subst hG
  have X : gX K cJ2_coder 1 "java/lang/String" "coder" (some .byte) 0 0 := X
  show V K 1 (kh0 K) 0 [(0, .ref ((kG K).2.2.2.1 i))] []
  obtain ⟨hi, rfl, hh⟩ := strOk_some hd
  refine v_getsC X q719 dJ2_coder_0 ?_
  refine v_if_eq (tgt := 13) X dJ2_coder_3 (by decide) (fun q => absurd q (by decide)) (fun q => ?_)
  refine v_aload_n X dJ2_coder_6 0 0 rfl rfl ?_
  refine v_coder X hi q2400 dJ2_coder_7 ?_
  refine v_goto (tgt := 14) X dJ2_coder_10 (by decide) ?_
  exact v_nret X (by rw [hh]; rfl) (by decide) ho dJ2_coder_14
def dkwJ2_length_0 : List UInt8 := [42, 180, 0, 9, 190, 42, 182, 1, 79, 122, 172]
abbrev dktJ2_length_0 : List UInt8 := dkwJ2_length_0 ++ []
theorem dksJ2_length_0 : cJ2_length.data.toList.drop 0 = dktJ2_length_0 := by decide +kernel
theorem dJ2_length_0 : decode cJ2_length 0 = .ok (.aload_n 0, 1) := dk_42 (dk_at dksJ2_length_0 0 rfl rfl)
theorem dJ2_length_1 : decode cJ2_length 1 = .ok (.getfield 9, 3) := dk_180 0 9 (dk_at dksJ2_length_0 1 rfl rfl)
theorem dJ2_length_4 : decode cJ2_length 4 = .ok (.arraylength, 1) := dk_190 (dk_at dksJ2_length_0 4 rfl rfl)
theorem dJ2_length_5 : decode cJ2_length 5 = .ok (.aload_n 0, 1) := dk_42 (dk_at dksJ2_length_0 5 rfl rfl)
theorem dJ2_length_6 : decode cJ2_length 6 = .ok (.invokevirtual 335, 3) := dk_182 1 79 (dk_at dksJ2_length_0 6 rfl rfl)
theorem dJ2_length_9 : decode cJ2_length 9 = .ok (.ishr, 1) := dk_122 (dk_at dksJ2_length_0 9 rfl rfl)
theorem dJ2_length_10 : decode cJ2_length 10 = .ok (.ireturn, 1) := dk_172 (dk_at dksJ2_length_0 10 rfl rfl)
theorem dn_J2_length : yJ2_length.cls ≠ "java/lang/invoke/MethodHandle" ∧ yJ2_length.cls ≠ "java/lang/invoke/VarHandle" ∧ (parseMethodDescriptor yJ2_length.desc).map (fun d => d.parameters.length) = some 0 := by decide +kernel
theorem ct_J2_length (G : gG) (i : Nat) : gCt G yJ2_length cJ2_length 1 (some .int) 1 20 [.ref (G.2.2.2.1 i)] (strLen i) (fun x : Int32 => some (.int x)) := by
  refine gCt.of (by decide) (Nat.le_of_ble_eq_true rfl) (fun K r hG X hd ho => ?_)
  subst hG
  have X : gX K cJ2_length 1 "java/lang/String" "length" (some .int) 1 20 := X
  have hle : gLe (kh1 K) (kh1 K) := gLe.rf
  show V K 1 (kh0 K) 0 [(0, .ref ((kG K).2.2.2.1 i))] []
  obtain ⟨hi, rfl, hh⟩ := strLen_some hd
  refine v_aload_n X dJ2_length_0 0 0 rfl rfl ?_
  refine v_value X hi q2399 dJ2_length_1 ?_
  refine v_slen X hi dJ2_length_4 ?_
  refine v_aload_n X dJ2_length_5 0 0 rfl rfl ?_
  have hd2 : (Mo.bind (strOk i (0 : Int32)) (fun v => Mo.pure v)).1 (kh0 K) = some (0, kh1 K) := by
    rw [hh]
    have e : (strOk i (0 : Int32)).1 (kh0 K) = some (0, kh0 K) := by show ((if i < 43 then some (0 : Int32) else none).map _) = _; rw [if_pos hi]; rfl
    rw [Mo.bind_of e]; rfl
  refine v_callStr X hi hd2 hle (ct_J2_coder _ i) (lw_V q715 q716 q717 q121 q718) ⟨rfl, dn_J2_coder⟩ rfl ⟨by decide, by decide⟩ rfl (Nat.le_of_ble_eq_true rfl) dJ2_length_6 (fun v h hd => ?_)
  obtain ⟨rfl, hh2⟩ := Mo.pure_some hd
  show V K 1 h 9 [(0, .ref ((kG K).2.2.2.1 i))] [.int 0, .int (nI (gSC.getD i []).length)]
  refine v_ishr X dJ2_length_9 ?_
  have e0 : ∀ x : Int32, x >>> ((0 : Int32) &&& 31) = x := by intro x; rw [show ((0 : Int32) &&& 31) = 0 from by decide]; first | exact Int32.shiftRight_zero | simp | (apply Int32.toBitVec_inj.mp; simp)
  rw [e0]
  exact v_iret X (by rw [← hh2]; rfl) ho dJ2_length_10
def dkwJ2_charAt_1 : List UInt8 := [172]
abbrev dktJ2_charAt_1 : List UInt8 := dkwJ2_charAt_1 ++ []
def dkwJ2_charAt_0 : List UInt8 := [42, 182, 1, 236, 153, 0, 12, 42, 180, 0, 9, 27, 184, 1, 239, 172, 42, 180, 0, 9, 27, 184, 1, 242]
abbrev dktJ2_charAt_0 : List UInt8 := dkwJ2_charAt_0 ++ dktJ2_charAt_1
theorem dksJ2_charAt_0 : cJ2_charAt.data.toList.drop 0 = dktJ2_charAt_0 := by decide +kernel
theorem dksJ2_charAt_1 : cJ2_charAt.data.toList.drop 24 = dktJ2_charAt_1 := dk_seg dksJ2_charAt_0 24 rfl rfl
theorem dJ2_charAt_0 : decode cJ2_charAt 0 = .ok (.aload_n 0, 1) := dk_42 (dk_at dksJ2_charAt_0 0 rfl rfl)
theorem dJ2_charAt_1 : decode cJ2_charAt 1 = .ok (.invokevirtual 492, 3) := dk_182 1 236 (dk_at dksJ2_charAt_0 1 rfl rfl)
theorem dJ2_charAt_4 : decode cJ2_charAt 4 = .ok (.ifCond .eq 12, 3) := dk_153 0 12 (dk_at dksJ2_charAt_0 4 rfl rfl)
theorem dJ2_charAt_7 : decode cJ2_charAt 7 = .ok (.aload_n 0, 1) := dk_42 (dk_at dksJ2_charAt_0 7 rfl rfl)
theorem dJ2_charAt_8 : decode cJ2_charAt 8 = .ok (.getfield 9, 3) := dk_180 0 9 (dk_at dksJ2_charAt_0 8 rfl rfl)
theorem dJ2_charAt_11 : decode cJ2_charAt 11 = .ok (.iload_n 1, 1) := dk_27 (dk_at dksJ2_charAt_0 11 rfl rfl)
theorem dJ2_charAt_12 : decode cJ2_charAt 12 = .ok (.invokestatic 495, 3) := dk_184 1 239 (dk_at dksJ2_charAt_0 12 rfl rfl)
theorem dJ2_charAt_15 : decode cJ2_charAt 15 = .ok (.ireturn, 1) := dk_172 (dk_at dksJ2_charAt_0 15 rfl rfl)
theorem dJ2_charAt_16 : decode cJ2_charAt 16 = .ok (.aload_n 0, 1) := dk_42 (dk_at dksJ2_charAt_0 16 rfl rfl)
theorem dJ2_charAt_17 : decode cJ2_charAt 17 = .ok (.getfield 9, 3) := dk_180 0 9 (dk_at dksJ2_charAt_0 17 rfl rfl)
theorem dJ2_charAt_20 : decode cJ2_charAt 20 = .ok (.iload_n 1, 1) := dk_27 (dk_at dksJ2_charAt_0 20 rfl rfl)
theorem dJ2_charAt_21 : decode cJ2_charAt 21 = .ok (.invokestatic 498, 3) := dk_184 1 242 (dk_at dksJ2_charAt_0 21 rfl rfl)
theorem dJ2_charAt_24 : decode cJ2_charAt 24 = .ok (.ireturn, 1) := dk_172 (dk_at dksJ2_charAt_1 0 rfl rfl)
theorem dn_J2_charAt : yJ2_charAt.cls ≠ "java/lang/invoke/MethodHandle" ∧ yJ2_charAt.cls ≠ "java/lang/invoke/VarHandle" ∧ (parseMethodDescriptor yJ2_charAt.desc).map (fun d => d.parameters.length) = some 1 := by decide +kernel
theorem ct_J2_charAt (G : gG) (i : Nat) (p1 : Int32) : gCt G yJ2_charAt cJ2_charAt 2 (some .char) 3 64 [.ref (G.2.2.2.1 i), .int p1] (strAt i p1) (fun x : Int32 => some (.int x)) := by
  refine gCt.of (by decide) (Nat.le_of_ble_eq_true rfl) (fun K r hG X hd ho => ?_)
  subst hG
  have X : gX K cJ2_charAt 2 "java/lang/String" "charAt" (some .char) 3 64 := X
  have hle : gLe (kh1 K) (kh1 K) := gLe.rf
  show V K 2 (kh0 K) 0 [(0, .ref ((kG K).2.2.2.1 i)), (1, .int p1)] []
  obtain ⟨hi, hj, hr, hh⟩ := strAt_some hd
  have hn := gSC_nar (j := p1.toNatClampNeg) hi (Nat.not_le.mp fun z => hj (Or.inr z))
  refine v_aload_n X dJ2_charAt_0 0 0 rfl rfl ?_
  have hd2 : (Mo.bind (strOk i true) (fun v => cond v (strAt i p1) Mo.fail)).1 (kh0 K) = some (r, kh1 K) := by
    have e : (strOk i true).1 (kh0 K) = some (true, kh0 K) := by show ((if i < 43 then some true else none).map _) = _; rw [if_pos hi]; rfl
    rw [Mo.bind_of e]; exact hd
  refine v_callStr X hi hd2 hle (ct_J2_isLatin1 _ i) (lw_V q725 q726 q727 q121 q728) ⟨rfl, dn_J2_isLatin1⟩ rfl ⟨by decide, by decide⟩ rfl (Nat.le_of_ble_eq_true rfl) dJ2_charAt_1 (fun v h hd3 => ?_)
  show V K 2 h 4 [(0, .ref ((kG K).2.2.2.1 i)), (1, .int p1)] [.int (b2i v)]
  refine v_ifZ_eq (tgt := 16) X dJ2_charAt_4 (by decide) (fun q => ?_) (fun q => ?_)
  · cases cnd_f q hd3
  have hd4 : (Mo.bind (strAt i p1) (fun v => Mo.pure v)).1 h = some (r, kh1 K) := by
    rw [Mo.bind_of (cnd_t q hd3)]; rfl
  refine v_aload_n X dJ2_charAt_7 0 0 rfl rfl ?_
  refine v_value X hi q2399 dJ2_charAt_8 ?_
  refine v_iload_n X dJ2_charAt_11 1 1 rfl rfl ?_
  refine v_callS X hd4 hle (ct_J3_charAt _ i p1) (lw_S q729 q730 q122 q731) dn_J3_charAt rfl ⟨by decide, by decide⟩ rfl (Nat.le_of_ble_eq_true rfl) dJ2_charAt_12 (fun v h hd => ?_)
  obtain ⟨rfl, hh2⟩ := Mo.pure_some hd
  exact v_nret X hd (by rw [hr]; exact hn.2) ho dJ2_charAt_15
section
variable {K : gK} {cc : ByteArray} {nL : Nat} {own nm : String} {ret : Option FieldType} {fr lo : Nat} {h : gH} {pc : Nat} {lv : List (Nat × Value)} {st : List Value} {β : Type} {r : β} {h' : gH}
theorem v_strLen (X : gX K cc nL own nm ret fr lo) {i : Nat} {g : Int32 → Mo β} (hd : (Mo.bind (strLen i) g).1 h = some (r, h')) (hle : gLe h' (kh1 K)) {index : Nat} (q1 : Cond.methodLink own index yJ2_length ∈ lw_all) (hR : 2 ≤ fr ∧ 40 ≤ lo) (hW8 : (st.map fun v => v.category).sum ≤ 8) (hdg : decode cc pc = .ok (.invokevirtual index, 3))
    (kk : ∀ (v : Int32) (h2 : gH), (g v).1 h2 = some (r, h') → V K nL h2 (pc + 3) lv (.int v :: st)) : V K nL h pc lv (.ref ((kG K).2.2.2.1 i) :: st) := by
  obtain ⟨a, h1, e1, e2⟩ := Mo.bind_some hd
  obtain ⟨hi, -, -⟩ := strLen_some e1
  exact v_callStr X hi hd hle (ct_J2_length _ i) (lw_V q1 q712 q713 q121 q714) ⟨rfl, dn_J2_length⟩ rfl hR rfl hW8 hdg kk
theorem v_strAt (X : gX K cc nL own nm ret fr lo) {i : Nat} {j : Int32} {g : Int32 → Mo β} (hd : (Mo.bind (strAt i j) g).1 h = some (r, h')) (hle : gLe h' (kh1 K)) {index : Nat} (q1 : Cond.methodLink own index yJ2_charAt ∈ lw_all) (hR : 4 ≤ fr ∧ 85 ≤ lo) (hW8 : (st.map fun v => v.category).sum ≤ 8) (hdg : decode cc pc = .ok (.invokevirtual index, 3))
    (kk : ∀ (v : Int32) (h2 : gH), (g v).1 h2 = some (r, h') → V K nL h2 (pc + 3) lv (.int v :: st)) : V K nL h pc lv (.int j :: .ref ((kG K).2.2.2.1 i) :: st) := by
  obtain ⟨a, h1, e1, e2⟩ := Mo.bind_some hd
  obtain ⟨hi, -, -, -⟩ := strAt_some e1
  exact v_callStr X hi hd hle (ct_J2_charAt _ i j) (lw_V q1 q722 q723 q121 q724) ⟨rfl, dn_J2_charAt⟩ rfl hR rfl hW8 hdg kk
theorem astS_some {a : Nat} {i : Int32} {x : Nat} {f : Unit → Mo β} (hd : (Mo.bind (astS a i x) f).1 h = some (r, h')) : ∃ n g, h.1 a = .inl (10, n, .inr (.inr g)) ∧ vp_in i n ∧ x < 43 ∧ (f ()).1 (va_up h.1 a (.inl (10, n, .inr (.inr (va_up g i.toNatClampNeg (some x))))), h.2) = some (r, h') := by
  obtain ⟨y, h1, e1, e2⟩ := Mo.bind_some hd
  obtain ⟨c, e3, rfl⟩ := Mo.wr_some e1
  revert e3
  rcases hh : h.1 a with ⟨k, n, g | g | g⟩ | o
  · intro e3; cases e3
  · intro e3; cases e3
  · intro e3
    simp only at e3
    by_cases z : k = 10 ∧ gIn i n = true ∧ x < 43
    · rw [if_pos z] at e3
      cases e3
      obtain ⟨rfl, z, z2⟩ := z
      exact ⟨n, g, rfl, gIn_in z, z2, e2⟩
    · rw [if_neg z] at e3; cases e3
  · intro e3; cases e3
/-- a String constant is laid into an array of Strings -/
theorem v_astS (X : gX K cc nL own nm ret fr lo) {a : Nat} {i : Int32} {x : Nat} {f : Unit → Mo β} (hd : (Mo.bind (astS a i x) f).1 h = some (r, h')) (hdg : decode cc pc = .ok (.aastore, 1)) (kk : ∀ h2 : gH, (f ()).1 h2 = some (r, h') → V K nL h2 (pc + 1) lv st) : V K nL h pc lv (.ref ((kG K).2.2.2.1 x) :: .int i :: .ref a :: st) := by
  intro ls hl H locs cells slots rp
  obtain ⟨n, g, e1, e2, e4, e3⟩ := astS_some hd
  obtain ⟨g1, g2, q⟩ := rp.1.arr e1 (by simp)
  have hS : ∀ z, gS (kG K) 10 z = z.map (kG K).2.2.2.1 := fun z => by unfold gS; rw [if_pos rfl]
  have key : ∀ H1 : Heap, H1[a]? = some ((gCell (kG K) 10 n (.inr (.inr g))).setSlot i.toNatClampNeg (.ref ((kG K).2.2.2.1 x))) → gAt (kG K) a (.inl (10, n, .inr (.inr (va_up g i.toNatClampNeg (some x))))) H1 := by
    intro H1 x1
    show H1[a]? = some (gCell (kG K) 10 n (.inr (.inr (va_up g i.toNatClampNeg (some x)))))
    rw [x1]
    refine congrArg some ?_
    show (arrV ((kG K).2.2.1 10) n (fun j => va_rf (gS (kG K) 10 (g j)))).setSlot i.toNatClampNeg (.ref ((kG K).2.2.2.1 x)) = arrV ((kG K).2.2.1 10) n (fun j => va_rf (gS (kG K) 10 (va_up g i.toNatClampNeg (some x) j)))
    rw [arrV_store]
    simp only [hS]
    have e : (fun j => va_rf ((va_up g i.toNatClampNeg (some x) j).map (kG K).2.2.2.1)) = updV (fun j => va_rf ((g j).map (kG K).2.2.2.1)) i.toNatClampNeg (.ref ((kG K).2.2.2.1 x)) := (updV_up (g := fun z : Option Nat => va_rf (z.map (kG K).2.2.2.1)) (f := g) (k := i.toNatClampNeg) (x := some x)).symm
    rw [e]
  have hin : ¬ (i < 0 ∨ (gCell (kG K) 10 n (.inr (.inr g))).slots.size ≤ i.toNatClampNeg) := by rw [gCell_size]; exact e2
  obtain ⟨cellV, y1, y2, y3, -⟩ := (X.hW.2.2.2.2.2.1 x e4).1.kept rp.2.1.2.1
  obtain ⟨kV, hkV, -⟩ := Vm.findClass_spec y3
  obtain ⟨kA, comp, k1, k2, k3, -⟩ := (X.hW.2.1.2 10 _ (rfl : (gTys (kG K))[10]? = some ((kG K).2.2.1 10, .object "java/lang/String"))).2
  obtain ⟨kE, hkE, -⟩ := Vm.findClass_spec k3
  have h0' : ¬ i < 0 := fun z => e2 (Or.inl z)
  have hlt : i.toNatClampNeg < n := Nat.not_le.mp fun z => e2 (Or.inr z)
  have hc : comp = cellV.cls := Option.some.inj (k3.symm.trans y3)
  exact W.aast X.hx X.hb q (fun z h => by cases h) (fun z => by cases z) k1 k2 rfl hkE ⟨h0', by show _ < (gCell (kG K) 10 n (.inr (.inr g))).slots.size; rw [gCell_size]; exact hlt⟩ y1 (fun z h => by rw [h] at y2; cases y2) hkV (by rw [hc]; exact va_asg _ _) rfl rfl hdg fun H1 x1 x2 x3 => kk _ e3 ls hl H1 _ cells slots (gRp_set rp g1 g2 (key H1 x1) x2 x3)
end
