set_option maxRecDepth 100000
def dkwX6_peek_1 : List UInt8 := [180, 0, 19, 51, 17, 0, 255, 126, 167, 0, 4, 2, 172]
abbrev dktX6_peek_1 : List UInt8 := dkwX6_peek_1 ++ []
def dkwX6_peek_0 : List UInt8 := [42, 180, 0, 19, 42, 180, 0, 3, 180, 0, 25, 162, 0, 22, 42, 180, 0, 3, 180, 0, 28, 42]
abbrev dktX6_peek_0 : List UInt8 := dkwX6_peek_0 ++ dktX6_peek_1
theorem dksX6_peek_0 : cX6_peek.data.toList.drop 0 = dktX6_peek_0 := by decide +kernel
theorem dksX6_peek_1 : cX6_peek.data.toList.drop 22 = dktX6_peek_1 := dk_seg dksX6_peek_0 22 rfl rfl
theorem dX6_peek_0 : decode cX6_peek 0 = .ok (.aload_n 0, 1) := dk_42 (dk_at dksX6_peek_0 0 rfl rfl)
theorem dX6_peek_1 : decode cX6_peek 1 = .ok (.getfield 19, 3) := dk_180 0 19 (dk_at dksX6_peek_0 1 rfl rfl)
theorem dX6_peek_4 : decode cX6_peek 4 = .ok (.aload_n 0, 1) := dk_42 (dk_at dksX6_peek_0 4 rfl rfl)
theorem dX6_peek_5 : decode cX6_peek 5 = .ok (.getfield 3, 3) := dk_180 0 3 (dk_at dksX6_peek_0 5 rfl rfl)
theorem dX6_peek_8 : decode cX6_peek 8 = .ok (.getfield 25, 3) := dk_180 0 25 (dk_at dksX6_peek_0 8 rfl rfl)
theorem dX6_peek_11 : decode cX6_peek 11 = .ok (.if_icmp .ge 22, 3) := dk_162 0 22 (dk_at dksX6_peek_0 11 rfl rfl)
theorem dX6_peek_14 : decode cX6_peek 14 = .ok (.aload_n 0, 1) := dk_42 (dk_at dksX6_peek_0 14 rfl rfl)
theorem dX6_peek_15 : decode cX6_peek 15 = .ok (.getfield 3, 3) := dk_180 0 3 (dk_at dksX6_peek_0 15 rfl rfl)
theorem dX6_peek_18 : decode cX6_peek 18 = .ok (.getfield 28, 3) := dk_180 0 28 (dk_at dksX6_peek_0 18 rfl rfl)
theorem dX6_peek_21 : decode cX6_peek 21 = .ok (.aload_n 0, 1) := dk_42 (dk_at dksX6_peek_0 21 rfl rfl)
theorem dX6_peek_22 : decode cX6_peek 22 = .ok (.getfield 19, 3) := dk_180 0 19 (dk_at dksX6_peek_1 0 rfl rfl)
theorem dX6_peek_25 : decode cX6_peek 25 = .ok (.baload, 1) := dk_51 (dk_at dksX6_peek_1 3 rfl rfl)
theorem dX6_peek_26 : decode cX6_peek 26 = .ok (.sipush 255, 3) := dk_17 0 255 (dk_at dksX6_peek_1 4 rfl rfl)
theorem dX6_peek_29 : decode cX6_peek 29 = .ok (.iand, 1) := dk_126 (dk_at dksX6_peek_1 7 rfl rfl)
theorem dX6_peek_30 : decode cX6_peek 30 = .ok (.goto 4, 3) := dk_167 0 4 (dk_at dksX6_peek_1 8 rfl rfl)
theorem dX6_peek_33 : decode cX6_peek 33 = .ok (.iconst (-1), 1) := dk_2 (dk_at dksX6_peek_1 11 rfl rfl)
theorem dX6_peek_34 : decode cX6_peek 34 = .ok (.ireturn, 1) := dk_172 (dk_at dksX6_peek_1 12 rfl rfl)
theorem fl_X6_19 : gFl "BitingDoors$Reader" 19 [5, 6, 7] 1 := by
  intro args s hts hN ci hc
  simp only [List.mem_cons, List.not_mem_nil, or_false] at hc
  rcases hc with rfl | rfl | rfl
  · exact ⟨RX7, TX7, 10, "BitingDoors$Reader", gCl_X7, in_X7, by decide, Or.inl (hts _ q388), fun _ h => h⟩
  · exact ⟨RX8, TX8, 9, "BitingDoors$Reader", gCl_X8, in_X8, by decide, Or.inl (hts _ q388), fun _ h => h⟩
  · exact ⟨RX9, TX9, 12, "BitingDoors$Reader", gCl_X9, in_X9, by decide, Or.inl (hts _ q388), fun _ h => h⟩
theorem fl_X6_25 : gFl "BitingDoors$Reader" 25 [0] 2 := by
  intro args s hts hN ci hc
  simp only [List.mem_cons, List.not_mem_nil, or_false] at hc
  subst hc
  exact ⟨RX1, TX1, 46, "BitingDoors", gCl_X1, in_X1, by decide, Or.inr ⟨"BitingDoors", va_Nw.use rfl (hN.1 ("BitingDoors$Reader", 25, "BitingDoors", "size", "I", "BitingDoors") (List.mem_of_getElem? (i := 39) rfl))⟩, fun _ h => h⟩
theorem fl_X6_28 : gFl "BitingDoors$Reader" 28 [0] 0 := by
  intro args s hts hN ci hc
  simp only [List.mem_cons, List.not_mem_nil, or_false] at hc
  subst hc
  exact ⟨RX1, TX1, 46, "BitingDoors", gCl_X1, in_X1, by decide, Or.inr ⟨"BitingDoors", va_Nw.use rfl (hN.1 ("BitingDoors$Reader", 28, "BitingDoors", "tape", "[B", "BitingDoors") (List.mem_of_getElem? (i := 38) rfl))⟩, fun _ h => h⟩
theorem fl_X6_3 : gFl "BitingDoors$Reader" 3 [5, 6, 7] 7 := by
  intro args s hts hN ci hc
  simp only [List.mem_cons, List.not_mem_nil, or_false] at hc
  rcases hc with rfl | rfl | rfl
  · exact ⟨RX7, TX7, 10, "BitingDoors$Reader", gCl_X7, in_X7, by decide, Or.inl (hts _ q410), fun _ h => h⟩
  · exact ⟨RX8, TX8, 9, "BitingDoors$Reader", gCl_X8, in_X8, by decide, Or.inl (hts _ q410), fun _ h => h⟩
  · exact ⟨RX9, TX9, 12, "BitingDoors$Reader", gCl_X9, in_X9, by decide, Or.inl (hts _ q410), fun _ h => h⟩
theorem dn_X6_peek : yX6_peek.cls ≠ "java/lang/invoke/MethodHandle" ∧ yX6_peek.cls ≠ "java/lang/invoke/VarHandle" ∧ (parseMethodDescriptor yX6_peek.desc).map (fun d => d.parameters.length) = some 0 := by decide +kernel
noncomputable def M_X6_peek (t : Nat) : Mo Int32 := Mo.bind (chk [5, 6, 7] t) (fun _ => Mo.bind (gI [5, 6, 7] t 1) (fun v1 => Mo.bind (gR [5, 6, 7] t 7) (fun v2 => Mo.bind (gI [0] v2 2) (fun v3 => Mo.bind ((if v3 ≤ v1 then Mo.pure (-1) else Mo.bind (gR [5, 6, 7] t 7) (fun v5 => Mo.bind (gR [0] v5 0) (fun v6 => Mo.bind (gI [5, 6, 7] t 1) (fun v7 => Mo.bind (aldI 2 v6 v7) (fun v8 => Mo.pure (v8 &&& 255))))) : Mo (Int32))) (fun u4 => Mo.pure u4)))))
set_option maxHeartbeats 4000000 in
theorem ct_X6_peek (G : gG) (t : Nat) : gCt G yX6_peek cX6_peek 1 (some .int) 0 0 [.ref t] (M_X6_peek t) (fun x : Int32 => some (.int x)) := by
  refine gCt.of (by decide) (Nat.le_of_ble_eq_true rfl) (fun K r hG X hd ho => ?_)
  subst hG
  have X : gX K cX6_peek 1 "BitingDoors$Reader" "peek" (some .int) 0 0 := X
  have hle : gLe (kh1 K) (kh1 K) := gLe.rf
  show V K 1 (kh0 K) 0 [(0, .ref t)] []
  generalize kh0 K = h at hd ⊢
  unfold M_X6_peek at hd
  obtain ⟨-, hd⟩ := chk_some hd
  refine v_aload_n X dX6_peek_0 0 0 rfl rfl ?_
  refine v_getI X hd fl_X6_19 dX6_peek_1 (fun v1 hd => ?_)
  refine v_aload_n X dX6_peek_4 0 0 rfl rfl ?_
  refine v_getR X hd fl_X6_3 dX6_peek_5 (fun v2 hd => ?_)
  refine v_getI X hd fl_X6_25 dX6_peek_8 (fun v3 hd => ?_)
  obtain ⟨u4, h1, hd, hd2⟩ := Mo.bind_some hd
  have KJ : V K 1 h1 34 [] [.int u4] := by
    clear hd
    have hd := hd2
    exact v_iret X hd ho dX6_peek_34
  have hle := (Mo.le hd2).tr hle
  clear hd2
  refine v_icmp_ge (tgt := 33) X dX6_peek_11 (by decide) (fun q => ?_) (fun q => ?_)
  · have hd := ite_t q hd
    refine v_iconst (v := (-1)) X dX6_peek_33 (by decide) ?_
    exact v_loc [] rfl (v_at (P := fun (u4 : Int32) h => V K 1 h 34 [] [.int u4]) hd KJ)
  · have hd := ite_f q hd
    refine v_aload_n X dX6_peek_14 0 0 rfl rfl ?_
    refine v_getR X hd fl_X6_3 dX6_peek_15 (fun v5 hd => ?_)
    refine v_getR X hd fl_X6_28 dX6_peek_18 (fun v6 hd => ?_)
    refine v_aload_n X dX6_peek_21 0 0 rfl rfl ?_
    refine v_getI X hd fl_X6_19 dX6_peek_22 (fun v7 hd => ?_)
    refine v_bald X hd dX6_peek_25 (fun v8 hd => ?_)
    refine v_sipush (v := 255) X dX6_peek_26 (by decide) ?_
    refine v_iand X dX6_peek_29 ?_
    refine v_goto (tgt := 34) X dX6_peek_30 (by decide) ?_
    exact v_loc [] rfl (v_at (P := fun (u4 : Int32) h => V K 1 h 34 [] [.int u4]) hd KJ)
def dkwX6_isLetter_0 : List UInt8 := [27, 16, 97, 16, 122, 184, 0, 32, 172]
abbrev dktX6_isLetter_0 : List UInt8 := dkwX6_isLetter_0 ++ []
theorem dksX6_isLetter_0 : cX6_isLetter.data.toList.drop 0 = dktX6_isLetter_0 := by decide +kernel
theorem dX6_isLetter_0 : decode cX6_isLetter 0 = .ok (.iload_n 1, 1) := dk_27 (dk_at dksX6_isLetter_0 0 rfl rfl)
theorem dX6_isLetter_1 : decode cX6_isLetter 1 = .ok (.bipush 97, 2) := dk_16 97 (dk_at dksX6_isLetter_0 1 rfl rfl)
theorem dX6_isLetter_3 : decode cX6_isLetter 3 = .ok (.bipush 122, 2) := dk_16 122 (dk_at dksX6_isLetter_0 3 rfl rfl)
theorem dX6_isLetter_5 : decode cX6_isLetter 5 = .ok (.invokestatic 32, 3) := dk_184 0 32 (dk_at dksX6_isLetter_0 5 rfl rfl)
theorem dX6_isLetter_8 : decode cX6_isLetter 8 = .ok (.ireturn, 1) := dk_172 (dk_at dksX6_isLetter_0 8 rfl rfl)
theorem dn_X6_isLetter : yX6_isLetter.cls ≠ "java/lang/invoke/MethodHandle" ∧ yX6_isLetter.cls ≠ "java/lang/invoke/VarHandle" ∧ (parseMethodDescriptor yX6_isLetter.desc).map (fun d => d.parameters.length) = some 1 := by decide +kernel
noncomputable def M_X6_isLetter (t : Nat) (p1 : Int32) : Mo Bool := Mo.bind (chk [5, 6, 7] t) (fun _ => Mo.bind (M_X1_isIn p1 97 122) (fun v1 => Mo.pure v1))
set_option maxHeartbeats 4000000 in
theorem ct_X6_isLetter (G : gG) (t : Nat) (p1 : Int32) : gCt G yX6_isLetter cX6_isLetter 2 (some .boolean) 1 22 [.ref t, .int p1] (M_X6_isLetter t p1) (fun x : Bool => some (.int (b2i x))) := by
  refine gCt.of (by decide) (Nat.le_of_ble_eq_true rfl) (fun K r hG X hd ho => ?_)
  subst hG
  have X : gX K cX6_isLetter 2 "BitingDoors$Reader" "isLetter" (some .boolean) 1 22 := X
  have hle : gLe (kh1 K) (kh1 K) := gLe.rf
  show V K 2 (kh0 K) 0 [(0, .ref t), (1, .int p1)] []
  generalize kh0 K = h at hd ⊢
  unfold M_X6_isLetter at hd
  obtain ⟨-, hd⟩ := chk_some hd
  refine v_iload_n X dX6_isLetter_0 1 1 rfl rfl ?_
  refine v_bipush (v := 97) X dX6_isLetter_1 (by decide) ?_
  refine v_bipush (v := 122) X dX6_isLetter_3 (by decide) ?_
  refine v_callSN (host := "BitingDoors") X hd hle (ct_X1_isIn _ p1 97 122) (List.mem_of_getElem? (i := 6) rfl) q689 q688 q109 dn_X1_isIn rfl ⟨by decide, by decide⟩ rfl (Nat.le_of_ble_eq_true rfl) dX6_isLetter_5 (fun v1 h hd => ?_)
  show V K 2 h 8 [(0, .ref t), (1, .int p1)] [.int (b2i v1)]
  exact v_zret X hd rfl ho dX6_isLetter_8
def dkwX6_isDigit_0 : List UInt8 := [27, 16, 48, 16, 57, 184, 0, 32, 172]
abbrev dktX6_isDigit_0 : List UInt8 := dkwX6_isDigit_0 ++ []
theorem dksX6_isDigit_0 : cX6_isDigit.data.toList.drop 0 = dktX6_isDigit_0 := by decide +kernel
theorem dX6_isDigit_0 : decode cX6_isDigit 0 = .ok (.iload_n 1, 1) := dk_27 (dk_at dksX6_isDigit_0 0 rfl rfl)
theorem dX6_isDigit_1 : decode cX6_isDigit 1 = .ok (.bipush 48, 2) := dk_16 48 (dk_at dksX6_isDigit_0 1 rfl rfl)
theorem dX6_isDigit_3 : decode cX6_isDigit 3 = .ok (.bipush 57, 2) := dk_16 57 (dk_at dksX6_isDigit_0 3 rfl rfl)
theorem dX6_isDigit_5 : decode cX6_isDigit 5 = .ok (.invokestatic 32, 3) := dk_184 0 32 (dk_at dksX6_isDigit_0 5 rfl rfl)
theorem dX6_isDigit_8 : decode cX6_isDigit 8 = .ok (.ireturn, 1) := dk_172 (dk_at dksX6_isDigit_0 8 rfl rfl)
theorem dn_X6_isDigit : yX6_isDigit.cls ≠ "java/lang/invoke/MethodHandle" ∧ yX6_isDigit.cls ≠ "java/lang/invoke/VarHandle" ∧ (parseMethodDescriptor yX6_isDigit.desc).map (fun d => d.parameters.length) = some 1 := by decide +kernel
noncomputable def M_X6_isDigit (t : Nat) (p1 : Int32) : Mo Bool := Mo.bind (chk [5, 6, 7] t) (fun _ => Mo.bind (M_X1_isIn p1 48 57) (fun v1 => Mo.pure v1))
set_option maxHeartbeats 4000000 in
theorem ct_X6_isDigit (G : gG) (t : Nat) (p1 : Int32) : gCt G yX6_isDigit cX6_isDigit 2 (some .boolean) 1 22 [.ref t, .int p1] (M_X6_isDigit t p1) (fun x : Bool => some (.int (b2i x))) := by
  refine gCt.of (by decide) (Nat.le_of_ble_eq_true rfl) (fun K r hG X hd ho => ?_)
  subst hG
  have X : gX K cX6_isDigit 2 "BitingDoors$Reader" "isDigit" (some .boolean) 1 22 := X
  have hle : gLe (kh1 K) (kh1 K) := gLe.rf
  show V K 2 (kh0 K) 0 [(0, .ref t), (1, .int p1)] []
  generalize kh0 K = h at hd ⊢
  unfold M_X6_isDigit at hd
  obtain ⟨-, hd⟩ := chk_some hd
  refine v_iload_n X dX6_isDigit_0 1 1 rfl rfl ?_
  refine v_bipush (v := 48) X dX6_isDigit_1 (by decide) ?_
  refine v_bipush (v := 57) X dX6_isDigit_3 (by decide) ?_
  refine v_callSN (host := "BitingDoors") X hd hle (ct_X1_isIn _ p1 48 57) (List.mem_of_getElem? (i := 6) rfl) q689 q688 q109 dn_X1_isIn rfl ⟨by decide, by decide⟩ rfl (Nat.le_of_ble_eq_true rfl) dX6_isDigit_5 (fun v1 h hd => ?_)
  show V K 2 h 8 [(0, .ref t), (1, .int p1)] [.int (b2i v1)]
  exact v_zret X hd rfl ho dX6_isDigit_8
def dkwX6_run_7 : List UInt8 := [167, 0, 4, 5, 164, 0, 7, 7, 167, 0, 12, 27, 153, 0, 7, 4, 167, 0, 4, 5, 181, 0, 43, 177]
abbrev dktX6_run_7 : List UInt8 := dkwX6_run_7 ++ []
def dkwX6_run_6 : List UInt8 := [180, 0, 40, 100, 181, 0, 64, 42, 28, 153, 0, 20, 42, 180, 0, 64, 27, 153, 0, 8, 16, 10]
abbrev dktX6_run_6 : List UInt8 := dkwX6_run_6 ++ dktX6_run_7
def dkwX6_run_5 : List UInt8 := [181, 0, 57, 42, 89, 180, 0, 19, 4, 96, 181, 0, 19, 167, 255, 137, 42, 42, 180, 0, 19, 42]
abbrev dktX6_run_5 : List UInt8 := dkwX6_run_5 ++ dktX6_run_6
def dkwX6_run_4 : List UInt8 := [180, 0, 40, 100, 5, 162, 0, 22, 42, 16, 10, 42, 180, 0, 57, 104, 42, 182, 0, 36, 96, 16, 48, 100]
abbrev dktX6_run_4 : List UInt8 := dkwX6_run_4 ++ dktX6_run_5
def dkwX6_run_3 : List UInt8 := [42, 180, 0, 60, 8, 121, 42, 182, 0, 36, 16, 31, 126, 133, 129, 181, 0, 60, 42, 180, 0, 19, 42]
abbrev dktX6_run_3 : List UInt8 := dkwX6_run_3 ++ dktX6_run_4
def dkwX6_run_2 : List UInt8 := [160, 0, 7, 4, 167, 0, 4, 3, 61, 42, 180, 0, 19, 42, 180, 0, 40, 100, 16, 10, 162, 0, 22, 42]
abbrev dktX6_run_2 : List UInt8 := dkwX6_run_2 ++ dktX6_run_3
def dkwX6_run_1 : List UInt8 := [42, 182, 0, 36, 182, 0, 50, 153, 0, 103, 28, 153, 0, 19, 42, 42, 182, 0, 36, 182, 0, 46, 27]
abbrev dktX6_run_1 : List UInt8 := dkwX6_run_1 ++ dktX6_run_2
def dkwX6_run_0 : List UInt8 := [4, 61, 42, 3, 181, 0, 57, 42, 9, 181, 0, 60, 42, 42, 182, 0, 36, 182, 0, 46, 154, 0, 14, 42]
abbrev dktX6_run_0 : List UInt8 := dkwX6_run_0 ++ dktX6_run_1
theorem dksX6_run_0 : cX6_run.data.toList.drop 0 = dktX6_run_0 := by decide +kernel
theorem dksX6_run_1 : cX6_run.data.toList.drop 24 = dktX6_run_1 := dk_seg dksX6_run_0 24 rfl rfl
theorem dksX6_run_2 : cX6_run.data.toList.drop 47 = dktX6_run_2 := dk_seg dksX6_run_1 23 rfl rfl
theorem dksX6_run_3 : cX6_run.data.toList.drop 71 = dktX6_run_3 := dk_seg dksX6_run_2 24 rfl rfl
theorem dksX6_run_4 : cX6_run.data.toList.drop 94 = dktX6_run_4 := dk_seg dksX6_run_3 23 rfl rfl
theorem dksX6_run_5 : cX6_run.data.toList.drop 118 = dktX6_run_5 := dk_seg dksX6_run_4 24 rfl rfl
theorem dksX6_run_6 : cX6_run.data.toList.drop 140 = dktX6_run_6 := dk_seg dksX6_run_5 22 rfl rfl
theorem dksX6_run_7 : cX6_run.data.toList.drop 162 = dktX6_run_7 := dk_seg dksX6_run_6 22 rfl rfl
theorem dX6_run_0 : decode cX6_run 0 = .ok (.iconst 1, 1) := dk_4 (dk_at dksX6_run_0 0 rfl rfl)
theorem dX6_run_1 : decode cX6_run 1 = .ok (.istore_n 2, 1) := dk_61 (dk_at dksX6_run_0 1 rfl rfl)
theorem dX6_run_2 : decode cX6_run 2 = .ok (.aload_n 0, 1) := dk_42 (dk_at dksX6_run_0 2 rfl rfl)
theorem dX6_run_3 : decode cX6_run 3 = .ok (.iconst 0, 1) := dk_3 (dk_at dksX6_run_0 3 rfl rfl)
theorem dX6_run_4 : decode cX6_run 4 = .ok (.putfield 57, 3) := dk_181 0 57 (dk_at dksX6_run_0 4 rfl rfl)
theorem dX6_run_7 : decode cX6_run 7 = .ok (.aload_n 0, 1) := dk_42 (dk_at dksX6_run_0 7 rfl rfl)
theorem dX6_run_8 : decode cX6_run 8 = .ok (.lconst 0, 1) := dk_9 (dk_at dksX6_run_0 8 rfl rfl)
theorem dX6_run_9 : decode cX6_run 9 = .ok (.putfield 60, 3) := dk_181 0 60 (dk_at dksX6_run_0 9 rfl rfl)
theorem dX6_run_12 : decode cX6_run 12 = .ok (.aload_n 0, 1) := dk_42 (dk_at dksX6_run_0 12 rfl rfl)
theorem dX6_run_13 : decode cX6_run 13 = .ok (.aload_n 0, 1) := dk_42 (dk_at dksX6_run_0 13 rfl rfl)
theorem dX6_run_14 : decode cX6_run 14 = .ok (.invokevirtual 36, 3) := dk_182 0 36 (dk_at dksX6_run_0 14 rfl rfl)
theorem dX6_run_17 : decode cX6_run 17 = .ok (.invokevirtual 46, 3) := dk_182 0 46 (dk_at dksX6_run_0 17 rfl rfl)
theorem dX6_run_20 : decode cX6_run 20 = .ok (.ifCond .ne 14, 3) := dk_154 0 14 (dk_at dksX6_run_0 20 rfl rfl)
theorem dX6_run_23 : decode cX6_run 23 = .ok (.aload_n 0, 1) := dk_42 (dk_at dksX6_run_0 23 rfl rfl)
theorem dX6_run_24 : decode cX6_run 24 = .ok (.aload_n 0, 1) := dk_42 (dk_at dksX6_run_1 0 rfl rfl)
theorem dX6_run_25 : decode cX6_run 25 = .ok (.invokevirtual 36, 3) := dk_182 0 36 (dk_at dksX6_run_1 1 rfl rfl)
theorem dX6_run_28 : decode cX6_run 28 = .ok (.invokevirtual 50, 3) := dk_182 0 50 (dk_at dksX6_run_1 4 rfl rfl)
theorem dX6_run_31 : decode cX6_run 31 = .ok (.ifCond .eq 103, 3) := dk_153 0 103 (dk_at dksX6_run_1 7 rfl rfl)
theorem dX6_run_34 : decode cX6_run 34 = .ok (.iload_n 2, 1) := dk_28 (dk_at dksX6_run_1 10 rfl rfl)
theorem dX6_run_35 : decode cX6_run 35 = .ok (.ifCond .eq 19, 3) := dk_153 0 19 (dk_at dksX6_run_1 11 rfl rfl)
theorem dX6_run_38 : decode cX6_run 38 = .ok (.aload_n 0, 1) := dk_42 (dk_at dksX6_run_1 14 rfl rfl)
theorem dX6_run_39 : decode cX6_run 39 = .ok (.aload_n 0, 1) := dk_42 (dk_at dksX6_run_1 15 rfl rfl)
theorem dX6_run_40 : decode cX6_run 40 = .ok (.invokevirtual 36, 3) := dk_182 0 36 (dk_at dksX6_run_1 16 rfl rfl)
theorem dX6_run_43 : decode cX6_run 43 = .ok (.invokevirtual 46, 3) := dk_182 0 46 (dk_at dksX6_run_1 19 rfl rfl)
theorem dX6_run_46 : decode cX6_run 46 = .ok (.iload_n 1, 1) := dk_27 (dk_at dksX6_run_1 22 rfl rfl)
theorem dX6_run_47 : decode cX6_run 47 = .ok (.if_icmp .ne 7, 3) := dk_160 0 7 (dk_at dksX6_run_2 0 rfl rfl)
theorem dX6_run_50 : decode cX6_run 50 = .ok (.iconst 1, 1) := dk_4 (dk_at dksX6_run_2 3 rfl rfl)
theorem dX6_run_51 : decode cX6_run 51 = .ok (.goto 4, 3) := dk_167 0 4 (dk_at dksX6_run_2 4 rfl rfl)
theorem dX6_run_54 : decode cX6_run 54 = .ok (.iconst 0, 1) := dk_3 (dk_at dksX6_run_2 7 rfl rfl)
theorem dX6_run_55 : decode cX6_run 55 = .ok (.istore_n 2, 1) := dk_61 (dk_at dksX6_run_2 8 rfl rfl)
theorem dX6_run_56 : decode cX6_run 56 = .ok (.aload_n 0, 1) := dk_42 (dk_at dksX6_run_2 9 rfl rfl)
theorem dX6_run_57 : decode cX6_run 57 = .ok (.getfield 19, 3) := dk_180 0 19 (dk_at dksX6_run_2 10 rfl rfl)
theorem dX6_run_60 : decode cX6_run 60 = .ok (.aload_n 0, 1) := dk_42 (dk_at dksX6_run_2 13 rfl rfl)
theorem dX6_run_61 : decode cX6_run 61 = .ok (.getfield 40, 3) := dk_180 0 40 (dk_at dksX6_run_2 14 rfl rfl)
theorem dX6_run_64 : decode cX6_run 64 = .ok (.isub, 1) := dk_100 (dk_at dksX6_run_2 17 rfl rfl)
theorem dX6_run_65 : decode cX6_run 65 = .ok (.bipush 10, 2) := dk_16 10 (dk_at dksX6_run_2 18 rfl rfl)
theorem dX6_run_67 : decode cX6_run 67 = .ok (.if_icmp .ge 22, 3) := dk_162 0 22 (dk_at dksX6_run_2 20 rfl rfl)
theorem dX6_run_70 : decode cX6_run 70 = .ok (.aload_n 0, 1) := dk_42 (dk_at dksX6_run_2 23 rfl rfl)
theorem dX6_run_71 : decode cX6_run 71 = .ok (.aload_n 0, 1) := dk_42 (dk_at dksX6_run_3 0 rfl rfl)
theorem dX6_run_72 : decode cX6_run 72 = .ok (.getfield 60, 3) := dk_180 0 60 (dk_at dksX6_run_3 1 rfl rfl)
theorem dX6_run_75 : decode cX6_run 75 = .ok (.iconst 5, 1) := dk_8 (dk_at dksX6_run_3 4 rfl rfl)
theorem dX6_run_76 : decode cX6_run 76 = .ok (.lshl, 1) := dk_121 (dk_at dksX6_run_3 5 rfl rfl)
theorem dX6_run_77 : decode cX6_run 77 = .ok (.aload_n 0, 1) := dk_42 (dk_at dksX6_run_3 6 rfl rfl)
theorem dX6_run_78 : decode cX6_run 78 = .ok (.invokevirtual 36, 3) := dk_182 0 36 (dk_at dksX6_run_3 7 rfl rfl)
theorem dX6_run_81 : decode cX6_run 81 = .ok (.bipush 31, 2) := dk_16 31 (dk_at dksX6_run_3 10 rfl rfl)
theorem dX6_run_83 : decode cX6_run 83 = .ok (.iand, 1) := dk_126 (dk_at dksX6_run_3 12 rfl rfl)
theorem dX6_run_84 : decode cX6_run 84 = .ok (.i2l, 1) := dk_133 (dk_at dksX6_run_3 13 rfl rfl)
theorem dX6_run_85 : decode cX6_run 85 = .ok (.lor, 1) := dk_129 (dk_at dksX6_run_3 14 rfl rfl)
theorem dX6_run_86 : decode cX6_run 86 = .ok (.putfield 60, 3) := dk_181 0 60 (dk_at dksX6_run_3 15 rfl rfl)
theorem dX6_run_89 : decode cX6_run 89 = .ok (.aload_n 0, 1) := dk_42 (dk_at dksX6_run_3 18 rfl rfl)
theorem dX6_run_90 : decode cX6_run 90 = .ok (.getfield 19, 3) := dk_180 0 19 (dk_at dksX6_run_3 19 rfl rfl)
theorem dX6_run_93 : decode cX6_run 93 = .ok (.aload_n 0, 1) := dk_42 (dk_at dksX6_run_3 22 rfl rfl)
theorem dX6_run_94 : decode cX6_run 94 = .ok (.getfield 40, 3) := dk_180 0 40 (dk_at dksX6_run_4 0 rfl rfl)
theorem dX6_run_97 : decode cX6_run 97 = .ok (.isub, 1) := dk_100 (dk_at dksX6_run_4 3 rfl rfl)
theorem dX6_run_98 : decode cX6_run 98 = .ok (.iconst 2, 1) := dk_5 (dk_at dksX6_run_4 4 rfl rfl)
theorem dX6_run_99 : decode cX6_run 99 = .ok (.if_icmp .ge 22, 3) := dk_162 0 22 (dk_at dksX6_run_4 5 rfl rfl)
theorem dX6_run_102 : decode cX6_run 102 = .ok (.aload_n 0, 1) := dk_42 (dk_at dksX6_run_4 8 rfl rfl)
theorem dX6_run_103 : decode cX6_run 103 = .ok (.bipush 10, 2) := dk_16 10 (dk_at dksX6_run_4 9 rfl rfl)
theorem dX6_run_105 : decode cX6_run 105 = .ok (.aload_n 0, 1) := dk_42 (dk_at dksX6_run_4 11 rfl rfl)
theorem dX6_run_106 : decode cX6_run 106 = .ok (.getfield 57, 3) := dk_180 0 57 (dk_at dksX6_run_4 12 rfl rfl)
theorem dX6_run_109 : decode cX6_run 109 = .ok (.imul, 1) := dk_104 (dk_at dksX6_run_4 15 rfl rfl)
theorem dX6_run_110 : decode cX6_run 110 = .ok (.aload_n 0, 1) := dk_42 (dk_at dksX6_run_4 16 rfl rfl)
theorem dX6_run_111 : decode cX6_run 111 = .ok (.invokevirtual 36, 3) := dk_182 0 36 (dk_at dksX6_run_4 17 rfl rfl)
theorem dX6_run_114 : decode cX6_run 114 = .ok (.iadd, 1) := dk_96 (dk_at dksX6_run_4 20 rfl rfl)
theorem dX6_run_115 : decode cX6_run 115 = .ok (.bipush 48, 2) := dk_16 48 (dk_at dksX6_run_4 21 rfl rfl)
theorem dX6_run_117 : decode cX6_run 117 = .ok (.isub, 1) := dk_100 (dk_at dksX6_run_4 23 rfl rfl)
theorem dX6_run_118 : decode cX6_run 118 = .ok (.putfield 57, 3) := dk_181 0 57 (dk_at dksX6_run_5 0 rfl rfl)
theorem dX6_run_121 : decode cX6_run 121 = .ok (.aload_n 0, 1) := dk_42 (dk_at dksX6_run_5 3 rfl rfl)
theorem dX6_run_122 : decode cX6_run 122 = .ok (.dup, 1) := dk_89 (dk_at dksX6_run_5 4 rfl rfl)
theorem dX6_run_123 : decode cX6_run 123 = .ok (.getfield 19, 3) := dk_180 0 19 (dk_at dksX6_run_5 5 rfl rfl)
theorem dX6_run_126 : decode cX6_run 126 = .ok (.iconst 1, 1) := dk_4 (dk_at dksX6_run_5 8 rfl rfl)
theorem dX6_run_127 : decode cX6_run 127 = .ok (.iadd, 1) := dk_96 (dk_at dksX6_run_5 9 rfl rfl)
theorem dX6_run_128 : decode cX6_run 128 = .ok (.putfield 19, 3) := dk_181 0 19 (dk_at dksX6_run_5 10 rfl rfl)
theorem dX6_run_131 : decode cX6_run 131 = .ok (.goto (-119), 3) := dk_167 255 137 (dk_at dksX6_run_5 13 rfl rfl)
theorem dX6_run_134 : decode cX6_run 134 = .ok (.aload_n 0, 1) := dk_42 (dk_at dksX6_run_5 16 rfl rfl)
theorem dX6_run_135 : decode cX6_run 135 = .ok (.aload_n 0, 1) := dk_42 (dk_at dksX6_run_5 17 rfl rfl)
theorem dX6_run_136 : decode cX6_run 136 = .ok (.getfield 19, 3) := dk_180 0 19 (dk_at dksX6_run_5 18 rfl rfl)
theorem dX6_run_139 : decode cX6_run 139 = .ok (.aload_n 0, 1) := dk_42 (dk_at dksX6_run_5 21 rfl rfl)
theorem dX6_run_140 : decode cX6_run 140 = .ok (.getfield 40, 3) := dk_180 0 40 (dk_at dksX6_run_6 0 rfl rfl)
theorem dX6_run_143 : decode cX6_run 143 = .ok (.isub, 1) := dk_100 (dk_at dksX6_run_6 3 rfl rfl)
theorem dX6_run_144 : decode cX6_run 144 = .ok (.putfield 64, 3) := dk_181 0 64 (dk_at dksX6_run_6 4 rfl rfl)
theorem dX6_run_147 : decode cX6_run 147 = .ok (.aload_n 0, 1) := dk_42 (dk_at dksX6_run_6 7 rfl rfl)
theorem dX6_run_148 : decode cX6_run 148 = .ok (.iload_n 2, 1) := dk_28 (dk_at dksX6_run_6 8 rfl rfl)
theorem dX6_run_149 : decode cX6_run 149 = .ok (.ifCond .eq 20, 3) := dk_153 0 20 (dk_at dksX6_run_6 9 rfl rfl)
theorem dX6_run_152 : decode cX6_run 152 = .ok (.aload_n 0, 1) := dk_42 (dk_at dksX6_run_6 12 rfl rfl)
theorem dX6_run_153 : decode cX6_run 153 = .ok (.getfield 64, 3) := dk_180 0 64 (dk_at dksX6_run_6 13 rfl rfl)
theorem dX6_run_156 : decode cX6_run 156 = .ok (.iload_n 1, 1) := dk_27 (dk_at dksX6_run_6 16 rfl rfl)
theorem dX6_run_157 : decode cX6_run 157 = .ok (.ifCond .eq 8, 3) := dk_153 0 8 (dk_at dksX6_run_6 17 rfl rfl)
theorem dX6_run_160 : decode cX6_run 160 = .ok (.bipush 10, 2) := dk_16 10 (dk_at dksX6_run_6 20 rfl rfl)
theorem dX6_run_162 : decode cX6_run 162 = .ok (.goto 4, 3) := dk_167 0 4 (dk_at dksX6_run_7 0 rfl rfl)
theorem dX6_run_165 : decode cX6_run 165 = .ok (.iconst 2, 1) := dk_5 (dk_at dksX6_run_7 3 rfl rfl)
theorem dX6_run_166 : decode cX6_run 166 = .ok (.if_icmp .le 7, 3) := dk_164 0 7 (dk_at dksX6_run_7 4 rfl rfl)
theorem dX6_run_169 : decode cX6_run 169 = .ok (.iconst 4, 1) := dk_7 (dk_at dksX6_run_7 7 rfl rfl)
theorem dX6_run_170 : decode cX6_run 170 = .ok (.goto 12, 3) := dk_167 0 12 (dk_at dksX6_run_7 8 rfl rfl)
theorem dX6_run_173 : decode cX6_run 173 = .ok (.iload_n 1, 1) := dk_27 (dk_at dksX6_run_7 11 rfl rfl)
theorem dX6_run_174 : decode cX6_run 174 = .ok (.ifCond .eq 7, 3) := dk_153 0 7 (dk_at dksX6_run_7 12 rfl rfl)
theorem dX6_run_177 : decode cX6_run 177 = .ok (.iconst 1, 1) := dk_4 (dk_at dksX6_run_7 15 rfl rfl)
theorem dX6_run_178 : decode cX6_run 178 = .ok (.goto 4, 3) := dk_167 0 4 (dk_at dksX6_run_7 16 rfl rfl)
theorem dX6_run_181 : decode cX6_run 181 = .ok (.iconst 2, 1) := dk_5 (dk_at dksX6_run_7 19 rfl rfl)
theorem dX6_run_182 : decode cX6_run 182 = .ok (.putfield 43, 3) := dk_181 0 43 (dk_at dksX6_run_7 20 rfl rfl)
theorem dX6_run_185 : decode cX6_run 185 = .ok (.return_, 1) := dk_177 (dk_at dksX6_run_7 23 rfl rfl)
theorem fl_X6_40 : gFl "BitingDoors$Reader" 40 [5, 6, 7] 2 := by
  intro args s hts hN ci hc
  simp only [List.mem_cons, List.not_mem_nil, or_false] at hc
  rcases hc with rfl | rfl | rfl
  · exact ⟨RX7, TX7, 10, "BitingDoors$Reader", gCl_X7, in_X7, by decide, Or.inl (hts _ q391), fun _ h => h⟩
  · exact ⟨RX8, TX8, 9, "BitingDoors$Reader", gCl_X8, in_X8, by decide, Or.inl (hts _ q391), fun _ h => h⟩
  · exact ⟨RX9, TX9, 12, "BitingDoors$Reader", gCl_X9, in_X9, by decide, Or.inl (hts _ q391), fun _ h => h⟩
theorem fl_X6_57 : gFl "BitingDoors$Reader" 57 [5, 6, 7] 4 := by
  intro args s hts hN ci hc
  simp only [List.mem_cons, List.not_mem_nil, or_false] at hc
  rcases hc with rfl | rfl | rfl
  · exact ⟨RX7, TX7, 10, "BitingDoors$Reader", gCl_X7, in_X7, by decide, Or.inl (hts _ q403), fun _ h => h⟩
  · exact ⟨RX8, TX8, 9, "BitingDoors$Reader", gCl_X8, in_X8, by decide, Or.inl (hts _ q403), fun _ h => h⟩
  · exact ⟨RX9, TX9, 12, "BitingDoors$Reader", gCl_X9, in_X9, by decide, Or.inl (hts _ q403), fun _ h => h⟩
theorem fl_X6_60 : gFl "BitingDoors$Reader" 60 [5, 6, 7] 6 := by
  intro args s hts hN ci hc
  simp only [List.mem_cons, List.not_mem_nil, or_false] at hc
  rcases hc with rfl | rfl | rfl
  · exact ⟨RX7, TX7, 10, "BitingDoors$Reader", gCl_X7, in_X7, by decide, Or.inl (hts _ q409), fun _ h => h⟩
  · exact ⟨RX8, TX8, 9, "BitingDoors$Reader", gCl_X8, in_X8, by decide, Or.inl (hts _ q409), fun _ h => h⟩
  · exact ⟨RX9, TX9, 12, "BitingDoors$Reader", gCl_X9, in_X9, by decide, Or.inl (hts _ q409), fun _ h => h⟩
theorem fl_X6_64 : gFl "BitingDoors$Reader" 64 [5, 6, 7] 5 := by
  intro args s hts hN ci hc
  simp only [List.mem_cons, List.not_mem_nil, or_false] at hc
  rcases hc with rfl | rfl | rfl
  · exact ⟨RX7, TX7, 10, "BitingDoors$Reader", gCl_X7, in_X7, by decide, Or.inl (hts _ q406), fun _ h => h⟩
  · exact ⟨RX8, TX8, 9, "BitingDoors$Reader", gCl_X8, in_X8, by decide, Or.inl (hts _ q406), fun _ h => h⟩
  · exact ⟨RX9, TX9, 12, "BitingDoors$Reader", gCl_X9, in_X9, by decide, Or.inl (hts _ q406), fun _ h => h⟩
theorem fp_X6_19 {nm : String} : gFp "BitingDoors$Reader" nm 19 [5, 6, 7] 1 .int := by
  intro args s hts hN ci hc
  simp only [List.mem_cons, List.not_mem_nil, or_false] at hc
  rcases hc with rfl | rfl | rfl
  · exact ⟨RX7, TX7, 10, "BitingDoors$Reader", gCl_X7, in_X7, by decide, Or.inl ⟨rfl, Or.inl (hts _ q388)⟩, fun _ h => h, rfl, fun D tys hK => gap_X7 hts hK⟩
  · exact ⟨RX8, TX8, 9, "BitingDoors$Reader", gCl_X8, in_X8, by decide, Or.inl ⟨rfl, Or.inl (hts _ q388)⟩, fun _ h => h, rfl, fun D tys hK => gap_X8 hts hK⟩
  · exact ⟨RX9, TX9, 12, "BitingDoors$Reader", gCl_X9, in_X9, by decide, Or.inl ⟨rfl, Or.inl (hts _ q388)⟩, fun _ h => h, rfl, fun D tys hK => gap_X9 hts hK⟩
theorem fp_X6_43 {nm : String} : gFp "BitingDoors$Reader" nm 43 [5, 6, 7] 3 .int := by
  intro args s hts hN ci hc
  simp only [List.mem_cons, List.not_mem_nil, or_false] at hc
  rcases hc with rfl | rfl | rfl
  · exact ⟨RX7, TX7, 10, "BitingDoors$Reader", gCl_X7, in_X7, by decide, Or.inl ⟨rfl, Or.inl (hts _ q398)⟩, fun _ h => h, rfl, fun D tys hK => gap_X7 hts hK⟩
  · exact ⟨RX8, TX8, 9, "BitingDoors$Reader", gCl_X8, in_X8, by decide, Or.inl ⟨rfl, Or.inl (hts _ q398)⟩, fun _ h => h, rfl, fun D tys hK => gap_X8 hts hK⟩
  · exact ⟨RX9, TX9, 12, "BitingDoors$Reader", gCl_X9, in_X9, by decide, Or.inl ⟨rfl, Or.inl (hts _ q398)⟩, fun _ h => h, rfl, fun D tys hK => gap_X9 hts hK⟩
theorem fp_X6_57 {nm : String} : gFp "BitingDoors$Reader" nm 57 [5, 6, 7] 4 .int := by
  intro args s hts hN ci hc
  simp only [List.mem_cons, List.not_mem_nil, or_false] at hc
  rcases hc with rfl | rfl | rfl
  · exact ⟨RX7, TX7, 10, "BitingDoors$Reader", gCl_X7, in_X7, by decide, Or.inl ⟨rfl, Or.inl (hts _ q403)⟩, fun _ h => h, rfl, fun D tys hK => gap_X7 hts hK⟩
  · exact ⟨RX8, TX8, 9, "BitingDoors$Reader", gCl_X8, in_X8, by decide, Or.inl ⟨rfl, Or.inl (hts _ q403)⟩, fun _ h => h, rfl, fun D tys hK => gap_X8 hts hK⟩
  · exact ⟨RX9, TX9, 12, "BitingDoors$Reader", gCl_X9, in_X9, by decide, Or.inl ⟨rfl, Or.inl (hts _ q403)⟩, fun _ h => h, rfl, fun D tys hK => gap_X9 hts hK⟩
theorem fp_X6_60 {nm : String} : gFp "BitingDoors$Reader" nm 60 [5, 6, 7] 6 .long := by
  intro args s hts hN ci hc
  simp only [List.mem_cons, List.not_mem_nil, or_false] at hc
  rcases hc with rfl | rfl | rfl
  · exact ⟨RX7, TX7, 10, "BitingDoors$Reader", gCl_X7, in_X7, by decide, Or.inl ⟨rfl, Or.inl (hts _ q409)⟩, fun _ h => h, rfl, fun D tys hK => gap_X7 hts hK⟩
  · exact ⟨RX8, TX8, 9, "BitingDoors$Reader", gCl_X8, in_X8, by decide, Or.inl ⟨rfl, Or.inl (hts _ q409)⟩, fun _ h => h, rfl, fun D tys hK => gap_X8 hts hK⟩
  · exact ⟨RX9, TX9, 12, "BitingDoors$Reader", gCl_X9, in_X9, by decide, Or.inl ⟨rfl, Or.inl (hts _ q409)⟩, fun _ h => h, rfl, fun D tys hK => gap_X9 hts hK⟩
theorem fp_X6_64 {nm : String} : gFp "BitingDoors$Reader" nm 64 [5, 6, 7] 5 .int := by
  intro args s hts hN ci hc
  simp only [List.mem_cons, List.not_mem_nil, or_false] at hc
  rcases hc with rfl | rfl | rfl
  · exact ⟨RX7, TX7, 10, "BitingDoors$Reader", gCl_X7, in_X7, by decide, Or.inl ⟨rfl, Or.inl (hts _ q406)⟩, fun _ h => h, rfl, fun D tys hK => gap_X7 hts hK⟩
  · exact ⟨RX8, TX8, 9, "BitingDoors$Reader", gCl_X8, in_X8, by decide, Or.inl ⟨rfl, Or.inl (hts _ q406)⟩, fun _ h => h, rfl, fun D tys hK => gap_X8 hts hK⟩
  · exact ⟨RX9, TX9, 12, "BitingDoors$Reader", gCl_X9, in_X9, by decide, Or.inl ⟨rfl, Or.inl (hts _ q406)⟩, fun _ h => h, rfl, fun D tys hK => gap_X9 hts hK⟩
theorem dn_X6_run : yX6_run.cls ≠ "java/lang/invoke/MethodHandle" ∧ yX6_run.cls ≠ "java/lang/invoke/VarHandle" ∧ (parseMethodDescriptor yX6_run.desc).map (fun d => d.parameters.length) = some 1 := by decide +kernel
noncomputable def M_X6_run (t : Nat) (p1 : Bool) : Mo Unit := Mo.bind (chk [5, 6, 7] t) (fun _ => Mo.bind (pF [5, 6, 7] t 4 (.int 0)) (fun _ => Mo.bind (pF [5, 6, 7] t 6 (.long 0)) (fun _ => Mo.bind (Mo.loop (S := Bool) (E := Bool) (fun s1 => Mo.bind (Mo.bind (chk [5, 6, 7] t) (fun _ => M_X6_peek t)) (fun v5 => Mo.bind (Mo.bind (chk [5, 6, 7] t) (fun _ => M_X6_isLetter t v5)) (fun v6 => cond v6 (Mo.bind ((cond s1 (Mo.bind (Mo.bind (chk [5, 6, 7] t) (fun _ => M_X6_peek t)) (fun v19 => Mo.bind (Mo.bind (chk [5, 6, 7] t) (fun _ => M_X6_isLetter t v19)) (fun v20 => if (b2i v20) = (b2i p1) then Mo.pure true else Mo.pure false))) (Mo.pure false) : Mo (Bool))) (fun u7 => Mo.bind (gI [5, 6, 7] t 1) (fun v8 => Mo.bind (gI [5, 6, 7] t 2) (fun v9 => Mo.bind ((if 10 ≤ (v8 - v9) then Mo.pure () else Mo.bind (gL [5, 6, 7] t 6) (fun v17 => Mo.bind (Mo.bind (chk [5, 6, 7] t) (fun _ => M_X6_peek t)) (fun v18 => Mo.bind (pF [5, 6, 7] t 6 (.long ((v17 <<< ((5 : Int32).toInt64 &&& 63)) ||| ((v18 &&& 31).toInt64)))) (fun _ => Mo.pure ()))) : Mo (Unit))) (fun u10 => Mo.bind (gI [5, 6, 7] t 1) (fun v11 => Mo.bind (gI [5, 6, 7] t 2) (fun v12 => Mo.bind ((if 2 ≤ (v11 - v12) then Mo.pure () else Mo.bind (gI [5, 6, 7] t 4) (fun v15 => Mo.bind (Mo.bind (chk [5, 6, 7] t) (fun _ => M_X6_peek t)) (fun v16 => Mo.bind (pF [5, 6, 7] t 4 (.int (((10 * v15) + v16) - 48))) (fun _ => Mo.pure ()))) : Mo (Unit))) (fun u13 => Mo.bind (gI [5, 6, 7] t 1) (fun v14 => Mo.bind (pF [5, 6, 7] t 1 (.int (v14 + 1))) (fun _ => Mo.pure (Sum.inl u7))))))))))) (Mo.bind (Mo.bind (chk [5, 6, 7] t) (fun _ => M_X6_peek t)) (fun v21 => Mo.bind (Mo.bind (chk [5, 6, 7] t) (fun _ => M_X6_isDigit t v21)) (fun v22 => cond v22 (Mo.bind ((cond s1 (Mo.bind (Mo.bind (chk [5, 6, 7] t) (fun _ => M_X6_peek t)) (fun v35 => Mo.bind (Mo.bind (chk [5, 6, 7] t) (fun _ => M_X6_isLetter t v35)) (fun v36 => if (b2i v36) = (b2i p1) then Mo.pure true else Mo.pure false))) (Mo.pure false) : Mo (Bool))) (fun u23 => Mo.bind (gI [5, 6, 7] t 1) (fun v24 => Mo.bind (gI [5, 6, 7] t 2) (fun v25 => Mo.bind ((if 10 ≤ (v24 - v25) then Mo.pure () else Mo.bind (gL [5, 6, 7] t 6) (fun v33 => Mo.bind (Mo.bind (chk [5, 6, 7] t) (fun _ => M_X6_peek t)) (fun v34 => Mo.bind (pF [5, 6, 7] t 6 (.long ((v33 <<< ((5 : Int32).toInt64 &&& 63)) ||| ((v34 &&& 31).toInt64)))) (fun _ => Mo.pure ()))) : Mo (Unit))) (fun u26 => Mo.bind (gI [5, 6, 7] t 1) (fun v27 => Mo.bind (gI [5, 6, 7] t 2) (fun v28 => Mo.bind ((if 2 ≤ (v27 - v28) then Mo.pure () else Mo.bind (gI [5, 6, 7] t 4) (fun v31 => Mo.bind (Mo.bind (chk [5, 6, 7] t) (fun _ => M_X6_peek t)) (fun v32 => Mo.bind (pF [5, 6, 7] t 4 (.int (((10 * v31) + v32) - 48))) (fun _ => Mo.pure ()))) : Mo (Unit))) (fun u29 => Mo.bind (gI [5, 6, 7] t 1) (fun v30 => Mo.bind (pF [5, 6, 7] t 1 (.int (v30 + 1))) (fun _ => Mo.pure (Sum.inl u23))))))))))) (Mo.pure (Sum.inr s1)))))))) true) (fun e4 => Mo.bind (gI [5, 6, 7] t 1) (fun v37 => Mo.bind (gI [5, 6, 7] t 2) (fun v38 => Mo.bind (pF [5, 6, 7] t 5 (.int (v37 - v38))) (fun _ => Mo.bind ((cond e4 (Mo.bind (gI [5, 6, 7] t 5) (fun v40 => Mo.bind ((cond p1 (Mo.pure 10) (Mo.pure 2) : Mo (Int32))) (fun u41 => if v40 ≤ u41 then cond p1 (Mo.pure 1) (Mo.pure 2) else Mo.pure 4))) (Mo.pure 4) : Mo (Int32))) (fun u39 => Mo.bind (pF [5, 6, 7] t 3 (.int u39)) (fun _ => Mo.pure ())))))))))
set_option maxHeartbeats 4000000 in
theorem ct_X6_run (G : gG) (t : Nat) (p1 : Bool) : gCt G yX6_run cX6_run 3 none 2 43 [.ref t, .int (b2i p1)] (M_X6_run t p1) (fun _ : Unit => none) := by
  refine gCt.of (by decide) (Nat.le_of_ble_eq_true rfl) (fun K r hG X hd ho => ?_)
  subst hG
  have X : gX K cX6_run 3 "BitingDoors$Reader" "run" none 2 43 := X
  have hle : gLe (kh1 K) (kh1 K) := gLe.rf
  show V K 3 (kh0 K) 0 [(0, .ref t), (1, .int (b2i p1))] []
  generalize kh0 K = h at hd ⊢
  unfold M_X6_run at hd
  obtain ⟨-, hd⟩ := chk_some hd
  refine v_iconst (v := 1) X dX6_run_0 (by decide) ?_
  refine v_istore_n (lv2 := [(2, .int 1), (0, .ref t), (1, .int (b2i p1))]) X dX6_run_1 2 rfl (by decide) rfl ?_
  refine v_aload_n X dX6_run_2 1 0 rfl rfl ?_
  refine v_iconst (v := 0) X dX6_run_3 (by decide) ?_
  refine v_put (v := .int 0) X hd fp_X6_57 rfl rfl dX6_run_4 (fun h hd => ?_)
  refine v_aload_n X dX6_run_7 1 0 rfl rfl ?_
  refine v_lconst (v := 0) X dX6_run_8 (by decide) ?_
  refine v_put (v := .long 0) X hd fp_X6_60 rfl rfl dX6_run_9 (fun h hd => ?_)
  obtain ⟨e4, h1, hd, hd2⟩ := Mo.bind_some hd
  have KX : V K 3 h1 134 [(0, .ref t), (1, .int (b2i p1)), (2, .int (b2i e4))] [] := by
    clear hd
    have hd := hd2
    refine v_aload_n X dX6_run_134 0 0 rfl rfl ?_
    refine v_aload_n X dX6_run_135 0 0 rfl rfl ?_
    refine v_getI X hd fl_X6_19 dX6_run_136 (fun v37 hd => ?_)
    refine v_aload_n X dX6_run_139 0 0 rfl rfl ?_
    refine v_getI X hd fl_X6_40 dX6_run_140 (fun v38 hd => ?_)
    refine v_isub X dX6_run_143 ?_
    refine v_put (v := .int (v37 - v38)) X hd fp_X6_64 rfl rfl dX6_run_144 (fun h hd => ?_)
    refine v_aload_n X dX6_run_147 0 0 rfl rfl ?_
    refine v_iload_n X dX6_run_148 2 2 rfl rfl ?_
    obtain ⟨u39, h1, hd, hd2⟩ := Mo.bind_some hd
    have KJ : V K 3 h1 182 [] [.int u39, .ref t] := by
      clear hd
      have hd := hd2
      refine v_put (v := .int u39) X hd fp_X6_43 rfl rfl dX6_run_182 (fun h hd => ?_)
      exact v_vret X hd ho dX6_run_185
    have hle := (Mo.le hd2).tr hle
    clear hd2
    refine v_ifZ_eq (tgt := 169) X dX6_run_149 (by decide) (fun q => ?_) (fun q => ?_)
    · have hd := cnd_f q hd
      refine v_iconst (v := 4) X dX6_run_169 (by decide) ?_
      refine v_goto (tgt := 182) X dX6_run_170 (by decide) ?_
      exact v_loc [] rfl (v_at (P := fun (u39 : Int32) h => V K 3 h 182 [] [.int u39, .ref t]) hd KJ)
    · have hd := cnd_t q hd
      refine v_aload_n X dX6_run_152 0 0 rfl rfl ?_
      refine v_getI X hd fl_X6_64 dX6_run_153 (fun v40 hd => ?_)
      refine v_iload_n X dX6_run_156 1 1 rfl rfl ?_
      obtain ⟨u41, h1, hd, hd2⟩ := Mo.bind_some hd
      have KJ : V K 3 h1 166 [(1, .int (b2i p1))] [.int u41, .int v40, .ref t] := by
        clear hd
        have hd := hd2
        refine v_icmp_le (tgt := 173) X dX6_run_166 (by decide) (fun q => ?_) (fun q => ?_)
        · have hd := ite_t q hd
          refine v_iload_n X dX6_run_173 0 1 rfl rfl ?_
          refine v_ifZ_eq (tgt := 181) X dX6_run_174 (by decide) (fun q => ?_) (fun q => ?_)
          · have hd := cnd_f q hd
            refine v_iconst (v := 2) X dX6_run_181 (by decide) ?_
            exact v_loc [] rfl (v_at (P := fun (u39 : Int32) h => V K 3 h 182 [] [.int u39, .ref t]) hd KJ)
          · have hd := cnd_t q hd
            refine v_iconst (v := 1) X dX6_run_177 (by decide) ?_
            refine v_goto (tgt := 182) X dX6_run_178 (by decide) ?_
            exact v_loc [] rfl (v_at (P := fun (u39 : Int32) h => V K 3 h 182 [] [.int u39, .ref t]) hd KJ)
        · have hd := ite_f q hd
          refine v_iconst (v := 4) X dX6_run_169 (by decide) ?_
          refine v_goto (tgt := 182) X dX6_run_170 (by decide) ?_
          exact v_loc [] rfl (v_at (P := fun (u39 : Int32) h => V K 3 h 182 [] [.int u39, .ref t]) hd KJ)
      have hle := (Mo.le hd2).tr hle
      clear hd2
      refine v_ifZ_eq (tgt := 165) X dX6_run_157 (by decide) (fun q => ?_) (fun q => ?_)
      · have hd := cnd_f q hd
        refine v_iconst (v := 2) X dX6_run_165 (by decide) ?_
        exact v_loc [1] rfl (v_at (P := fun (u41 : Int32) h => V K 3 h 166 [(1, .int (b2i p1))] [.int u41, .int v40, .ref t]) hd KJ)
      · have hd := cnd_t q hd
        refine v_bipush (v := 10) X dX6_run_160 (by decide) ?_
        refine v_goto (tgt := 166) X dX6_run_162 (by decide) ?_
        exact v_loc [1] rfl (v_at (P := fun (u41 : Int32) h => V K 3 h 166 [(1, .int (b2i p1))] [.int u41, .int v40, .ref t]) hd KJ)
  have hle := (Mo.le hd2).tr hle
  clear hd2
  refine v_loc [1, 2, 0] rfl ?_
  refine loop_ind hd (fun (s1 : Bool) h => V K 3 h 12 [(0, .ref t), (1, .int (b2i p1)), (2, .int (b2i s1))] []) (fun s1 h x h2 hd hle0 ih2 ho3 => ?_)
  have hle := hle0.tr hle
  refine v_aload_n X dX6_run_12 0 0 rfl rfl ?_
  refine v_aload_n X dX6_run_13 0 0 rfl rfl ?_
  refine v_callUP X hd hle (ct_X6_peek _ t) (gNS_of 0 _ rfl rfl rfl) q679 q2341 q681 q116 q682 dn_X6_peek rfl ⟨by decide, by decide⟩ rfl (Nat.le_of_ble_eq_true rfl) dX6_run_14 (fun v5 h hd => ?_)
  show V K 3 h 17 [(0, .ref t), (1, .int (b2i p1)), (2, .int (b2i s1))] [.int v5, .ref t]
  refine v_callUP X hd hle (ct_X6_isLetter _ t v5) (gNS_of 1 _ rfl rfl rfl) q683 q2342 q685 q116 q686 dn_X6_isLetter rfl ⟨by decide, by decide⟩ rfl (Nat.le_of_ble_eq_true rfl) dX6_run_17 (fun v6 h hd => ?_)
  show V K 3 h 20 [(0, .ref t), (1, .int (b2i p1)), (2, .int (b2i s1))] [.int (b2i v6)]
  refine v_ifZ_ne (tgt := 34) X dX6_run_20 (by decide) (fun q => ?_) (fun q => ?_)
  · have hd := cnd_t q hd
    refine v_iload_n X dX6_run_34 2 2 rfl rfl ?_
    obtain ⟨u7, h1, hd, hd2⟩ := Mo.bind_some hd
    have KJ : V K 3 h1 55 [(0, .ref t), (1, .int (b2i p1))] [.int (b2i u7)] := by
      clear hd
      have hd := hd2
      refine v_istore_n (lv2 := [(2, .int (b2i u7)), (0, .ref t), (1, .int (b2i p1))]) X dX6_run_55 2 rfl (by decide) rfl ?_
      refine v_aload_n X dX6_run_56 1 0 rfl rfl ?_
      refine v_getI X hd fl_X6_19 dX6_run_57 (fun v8 hd => ?_)
      refine v_aload_n X dX6_run_60 1 0 rfl rfl ?_
      refine v_getI X hd fl_X6_40 dX6_run_61 (fun v9 hd => ?_)
      refine v_isub X dX6_run_64 ?_
      refine v_bipush (v := 10) X dX6_run_65 (by decide) ?_
      obtain ⟨u10, h1, hd, hd2⟩ := Mo.bind_some hd
      have KJ : V K 3 h1 89 [(0, .ref t), (1, .int (b2i p1)), (2, .int (b2i u7))] [] := by
        clear hd
        have hd := hd2
        refine v_aload_n X dX6_run_89 0 0 rfl rfl ?_
        refine v_getI X hd fl_X6_19 dX6_run_90 (fun v11 hd => ?_)
        refine v_aload_n X dX6_run_93 0 0 rfl rfl ?_
        refine v_getI X hd fl_X6_40 dX6_run_94 (fun v12 hd => ?_)
        refine v_isub X dX6_run_97 ?_
        refine v_iconst (v := 2) X dX6_run_98 (by decide) ?_
        obtain ⟨u13, h1, hd, hd2⟩ := Mo.bind_some hd
        have KJ : V K 3 h1 121 [(0, .ref t), (1, .int (b2i p1)), (2, .int (b2i u7))] [] := by
          clear hd
          have hd := hd2
          refine v_aload_n X dX6_run_121 0 0 rfl rfl ?_
          refine v_dup X dX6_run_122 rfl ?_
          refine v_getI X hd fl_X6_19 dX6_run_123 (fun v14 hd => ?_)
          refine v_iconst (v := 1) X dX6_run_126 (by decide) ?_
          refine v_iadd X dX6_run_127 ?_
          refine v_put (v := .int (v14 + 1)) X hd fp_X6_19 rfl rfl dX6_run_128 (fun h hd => ?_)
          refine v_goto (tgt := 12) X dX6_run_131 (by decide) ?_
          exact v_loc [0, 1, 2] rfl (lp_in (P := fun (s1 : Bool) h => V K 3 h 12 [(0, .ref t), (1, .int (b2i p1)), (2, .int (b2i s1))] []) hd ih2)
        have hle := (Mo.le hd2).tr hle
        clear hd2
        refine v_icmp_ge (tgt := 121) X dX6_run_99 (by decide) (fun q => ?_) (fun q => ?_)
        · have hd := ite_t q hd
          exact v_loc [0, 1, 2] rfl (v_at (P := fun (u13 : Unit) h => V K 3 h 121 [(0, .ref t), (1, .int (b2i p1)), (2, .int (b2i u7))] []) hd KJ)
        · have hd := ite_f q hd
          refine v_aload_n X dX6_run_102 0 0 rfl rfl ?_
          refine v_bipush (v := 10) X dX6_run_103 (by decide) ?_
          refine v_aload_n X dX6_run_105 0 0 rfl rfl ?_
          refine v_getI X hd fl_X6_57 dX6_run_106 (fun v15 hd => ?_)
          refine v_imul X dX6_run_109 ?_
          refine v_aload_n X dX6_run_110 0 0 rfl rfl ?_
          refine v_callUP X hd hle (ct_X6_peek _ t) (gNS_of 0 _ rfl rfl rfl) q679 q2341 q681 q116 q682 dn_X6_peek rfl ⟨by decide, by decide⟩ rfl (Nat.le_of_ble_eq_true rfl) dX6_run_111 (fun v16 h hd => ?_)
          show V K 3 h 114 [(0, .ref t), (1, .int (b2i p1)), (2, .int (b2i u7))] [.int v16, .int (10 * v15), .ref t]
          refine v_iadd X dX6_run_114 ?_
          refine v_bipush (v := 48) X dX6_run_115 (by decide) ?_
          refine v_isub X dX6_run_117 ?_
          refine v_put (v := .int (((10 * v15) + v16) - 48)) X hd fp_X6_57 rfl rfl dX6_run_118 (fun h hd => ?_)
          exact v_loc [0, 1, 2] rfl (v_at (P := fun (u13 : Unit) h => V K 3 h 121 [(0, .ref t), (1, .int (b2i p1)), (2, .int (b2i u7))] []) hd KJ)
      have hle := (Mo.le hd2).tr hle
      clear hd2
      refine v_icmp_ge (tgt := 89) X dX6_run_67 (by decide) (fun q => ?_) (fun q => ?_)
      · have hd := ite_t q hd
        exact v_loc [1, 2, 0] rfl (v_at (P := fun (u10 : Unit) h => V K 3 h 89 [(0, .ref t), (1, .int (b2i p1)), (2, .int (b2i u7))] []) hd KJ)
      · have hd := ite_f q hd
        refine v_aload_n X dX6_run_70 1 0 rfl rfl ?_
        refine v_aload_n X dX6_run_71 1 0 rfl rfl ?_
        refine v_getL X hd fl_X6_60 dX6_run_72 (fun v17 hd => ?_)
        refine v_iconst (v := 5) X dX6_run_75 (by decide) ?_
        refine v_lshl X dX6_run_76 ?_
        refine v_aload_n X dX6_run_77 1 0 rfl rfl ?_
        refine v_callUP X hd hle (ct_X6_peek _ t) (gNS_of 0 _ rfl rfl rfl) q679 q2341 q681 q116 q682 dn_X6_peek rfl ⟨by decide, by decide⟩ rfl (Nat.le_of_ble_eq_true rfl) dX6_run_78 (fun v18 h hd => ?_)
        show V K 3 h 81 [(2, .int (b2i u7)), (0, .ref t), (1, .int (b2i p1))] [.int v18, .long (v17 <<< ((5 : Int32).toInt64 &&& 63)), .ref t]
        refine v_bipush (v := 31) X dX6_run_81 (by decide) ?_
        refine v_iand X dX6_run_83 ?_
        refine v_i2l X dX6_run_84 ?_
        refine v_lor X dX6_run_85 ?_
        refine v_put (v := .long ((v17 <<< ((5 : Int32).toInt64 &&& 63)) ||| ((v18 &&& 31).toInt64))) X hd fp_X6_60 rfl rfl dX6_run_86 (fun h hd => ?_)
        exact v_loc [1, 2, 0] rfl (v_at (P := fun (u10 : Unit) h => V K 3 h 89 [(0, .ref t), (1, .int (b2i p1)), (2, .int (b2i u7))] []) hd KJ)
    have hle := (Mo.le hd2).tr hle
    clear hd2
    refine v_ifZ_eq (tgt := 54) X dX6_run_35 (by decide) (fun q => ?_) (fun q => ?_)
    · have hd := cnd_f q hd
      refine v_iconst (v := 0) X dX6_run_54 (by decide) ?_
      exact v_loc [0, 1] rfl (v_at (P := fun (u7 : Bool) h => V K 3 h 55 [(0, .ref t), (1, .int (b2i p1))] [.int (b2i u7)]) hd KJ)
    · have hd := cnd_t q hd
      refine v_aload_n X dX6_run_38 0 0 rfl rfl ?_
      refine v_aload_n X dX6_run_39 0 0 rfl rfl ?_
      refine v_callUP X hd hle (ct_X6_peek _ t) (gNS_of 0 _ rfl rfl rfl) q679 q2341 q681 q116 q682 dn_X6_peek rfl ⟨by decide, by decide⟩ rfl (Nat.le_of_ble_eq_true rfl) dX6_run_40 (fun v19 h hd => ?_)
      show V K 3 h 43 [(0, .ref t), (1, .int (b2i p1)), (2, .int (b2i s1))] [.int v19, .ref t]
      refine v_callUP X hd hle (ct_X6_isLetter _ t v19) (gNS_of 1 _ rfl rfl rfl) q683 q2342 q685 q116 q686 dn_X6_isLetter rfl ⟨by decide, by decide⟩ rfl (Nat.le_of_ble_eq_true rfl) dX6_run_43 (fun v20 h hd => ?_)
      show V K 3 h 46 [(0, .ref t), (1, .int (b2i p1)), (2, .int (b2i s1))] [.int (b2i v20)]
      refine v_iload_n X dX6_run_46 1 1 rfl rfl ?_
      refine v_icmp_ne (tgt := 54) X dX6_run_47 (by decide) (fun q => ?_) (fun q => ?_)
      · have hd := ite_f q hd
        refine v_iconst (v := 0) X dX6_run_54 (by decide) ?_
        exact v_loc [0, 1] rfl (v_at (P := fun (u7 : Bool) h => V K 3 h 55 [(0, .ref t), (1, .int (b2i p1))] [.int (b2i u7)]) hd KJ)
      · have hd := ite_t q hd
        refine v_iconst (v := 1) X dX6_run_50 (by decide) ?_
        refine v_goto (tgt := 55) X dX6_run_51 (by decide) ?_
        exact v_loc [0, 1] rfl (v_at (P := fun (u7 : Bool) h => V K 3 h 55 [(0, .ref t), (1, .int (b2i p1))] [.int (b2i u7)]) hd KJ)
  · have hd := cnd_f q hd
    refine v_aload_n X dX6_run_23 0 0 rfl rfl ?_
    refine v_aload_n X dX6_run_24 0 0 rfl rfl ?_
    refine v_callUP X hd hle (ct_X6_peek _ t) (gNS_of 0 _ rfl rfl rfl) q679 q2341 q681 q116 q682 dn_X6_peek rfl ⟨by decide, by decide⟩ rfl (Nat.le_of_ble_eq_true rfl) dX6_run_25 (fun v21 h hd => ?_)
    show V K 3 h 28 [(0, .ref t), (1, .int (b2i p1)), (2, .int (b2i s1))] [.int v21, .ref t]
    refine v_callUP X hd hle (ct_X6_isDigit _ t v21) (gNS_of 2 _ rfl rfl rfl) q690 q2343 q692 q116 q693 dn_X6_isDigit rfl ⟨by decide, by decide⟩ rfl (Nat.le_of_ble_eq_true rfl) dX6_run_28 (fun v22 h hd => ?_)
    show V K 3 h 31 [(0, .ref t), (1, .int (b2i p1)), (2, .int (b2i s1))] [.int (b2i v22)]
    refine v_ifZ_eq (tgt := 134) X dX6_run_31 (by decide) (fun q => ?_) (fun q => ?_)
    · have hd := cnd_f q hd
      exact v_loc [0, 1, 2] rfl (v_at (P := fun (e4 : Bool) h => V K 3 h 134 [(0, .ref t), (1, .int (b2i p1)), (2, .int (b2i e4))] []) (lp_out hd ho3) KX)
    · have hd := cnd_t q hd
      refine v_iload_n X dX6_run_34 2 2 rfl rfl ?_
      obtain ⟨u23, h1, hd, hd2⟩ := Mo.bind_some hd
      have KJ : V K 3 h1 55 [(0, .ref t), (1, .int (b2i p1))] [.int (b2i u23)] := by
        clear hd
        have hd := hd2
        refine v_istore_n (lv2 := [(2, .int (b2i u23)), (0, .ref t), (1, .int (b2i p1))]) X dX6_run_55 2 rfl (by decide) rfl ?_
        refine v_aload_n X dX6_run_56 1 0 rfl rfl ?_
        refine v_getI X hd fl_X6_19 dX6_run_57 (fun v24 hd => ?_)
        refine v_aload_n X dX6_run_60 1 0 rfl rfl ?_
        refine v_getI X hd fl_X6_40 dX6_run_61 (fun v25 hd => ?_)
        refine v_isub X dX6_run_64 ?_
        refine v_bipush (v := 10) X dX6_run_65 (by decide) ?_
        obtain ⟨u26, h1, hd, hd2⟩ := Mo.bind_some hd
        have KJ : V K 3 h1 89 [(0, .ref t), (1, .int (b2i p1)), (2, .int (b2i u23))] [] := by
          clear hd
          have hd := hd2
          refine v_aload_n X dX6_run_89 0 0 rfl rfl ?_
          refine v_getI X hd fl_X6_19 dX6_run_90 (fun v27 hd => ?_)
          refine v_aload_n X dX6_run_93 0 0 rfl rfl ?_
          refine v_getI X hd fl_X6_40 dX6_run_94 (fun v28 hd => ?_)
          refine v_isub X dX6_run_97 ?_
          refine v_iconst (v := 2) X dX6_run_98 (by decide) ?_
          obtain ⟨u29, h1, hd, hd2⟩ := Mo.bind_some hd
          have KJ : V K 3 h1 121 [(0, .ref t), (1, .int (b2i p1)), (2, .int (b2i u23))] [] := by
            clear hd
            have hd := hd2
            refine v_aload_n X dX6_run_121 0 0 rfl rfl ?_
            refine v_dup X dX6_run_122 rfl ?_
            refine v_getI X hd fl_X6_19 dX6_run_123 (fun v30 hd => ?_)
            refine v_iconst (v := 1) X dX6_run_126 (by decide) ?_
            refine v_iadd X dX6_run_127 ?_
            refine v_put (v := .int (v30 + 1)) X hd fp_X6_19 rfl rfl dX6_run_128 (fun h hd => ?_)
            refine v_goto (tgt := 12) X dX6_run_131 (by decide) ?_
            exact v_loc [0, 1, 2] rfl (lp_in (P := fun (s1 : Bool) h => V K 3 h 12 [(0, .ref t), (1, .int (b2i p1)), (2, .int (b2i s1))] []) hd ih2)
          have hle := (Mo.le hd2).tr hle
          clear hd2
          refine v_icmp_ge (tgt := 121) X dX6_run_99 (by decide) (fun q => ?_) (fun q => ?_)
          · have hd := ite_t q hd
            exact v_loc [0, 1, 2] rfl (v_at (P := fun (u29 : Unit) h => V K 3 h 121 [(0, .ref t), (1, .int (b2i p1)), (2, .int (b2i u23))] []) hd KJ)
          · have hd := ite_f q hd
            refine v_aload_n X dX6_run_102 0 0 rfl rfl ?_
            refine v_bipush (v := 10) X dX6_run_103 (by decide) ?_
            refine v_aload_n X dX6_run_105 0 0 rfl rfl ?_
            refine v_getI X hd fl_X6_57 dX6_run_106 (fun v31 hd => ?_)
            refine v_imul X dX6_run_109 ?_
            refine v_aload_n X dX6_run_110 0 0 rfl rfl ?_
            refine v_callUP X hd hle (ct_X6_peek _ t) (gNS_of 0 _ rfl rfl rfl) q679 q2341 q681 q116 q682 dn_X6_peek rfl ⟨by decide, by decide⟩ rfl (Nat.le_of_ble_eq_true rfl) dX6_run_111 (fun v32 h hd => ?_)
            show V K 3 h 114 [(0, .ref t), (1, .int (b2i p1)), (2, .int (b2i u23))] [.int v32, .int (10 * v31), .ref t]
            refine v_iadd X dX6_run_114 ?_
            refine v_bipush (v := 48) X dX6_run_115 (by decide) ?_
            refine v_isub X dX6_run_117 ?_
            refine v_put (v := .int (((10 * v31) + v32) - 48)) X hd fp_X6_57 rfl rfl dX6_run_118 (fun h hd => ?_)
            exact v_loc [0, 1, 2] rfl (v_at (P := fun (u29 : Unit) h => V K 3 h 121 [(0, .ref t), (1, .int (b2i p1)), (2, .int (b2i u23))] []) hd KJ)
        have hle := (Mo.le hd2).tr hle
        clear hd2
        refine v_icmp_ge (tgt := 89) X dX6_run_67 (by decide) (fun q => ?_) (fun q => ?_)
        · have hd := ite_t q hd
          exact v_loc [1, 2, 0] rfl (v_at (P := fun (u26 : Unit) h => V K 3 h 89 [(0, .ref t), (1, .int (b2i p1)), (2, .int (b2i u23))] []) hd KJ)
        · have hd := ite_f q hd
          refine v_aload_n X dX6_run_70 1 0 rfl rfl ?_
          refine v_aload_n X dX6_run_71 1 0 rfl rfl ?_
          refine v_getL X hd fl_X6_60 dX6_run_72 (fun v33 hd => ?_)
          refine v_iconst (v := 5) X dX6_run_75 (by decide) ?_
          refine v_lshl X dX6_run_76 ?_
          refine v_aload_n X dX6_run_77 1 0 rfl rfl ?_
          refine v_callUP X hd hle (ct_X6_peek _ t) (gNS_of 0 _ rfl rfl rfl) q679 q2341 q681 q116 q682 dn_X6_peek rfl ⟨by decide, by decide⟩ rfl (Nat.le_of_ble_eq_true rfl) dX6_run_78 (fun v34 h hd => ?_)
          show V K 3 h 81 [(2, .int (b2i u23)), (0, .ref t), (1, .int (b2i p1))] [.int v34, .long (v33 <<< ((5 : Int32).toInt64 &&& 63)), .ref t]
          refine v_bipush (v := 31) X dX6_run_81 (by decide) ?_
          refine v_iand X dX6_run_83 ?_
          refine v_i2l X dX6_run_84 ?_
          refine v_lor X dX6_run_85 ?_
          refine v_put (v := .long ((v33 <<< ((5 : Int32).toInt64 &&& 63)) ||| ((v34 &&& 31).toInt64))) X hd fp_X6_60 rfl rfl dX6_run_86 (fun h hd => ?_)
          exact v_loc [1, 2, 0] rfl (v_at (P := fun (u26 : Unit) h => V K 3 h 89 [(0, .ref t), (1, .int (b2i p1)), (2, .int (b2i u23))] []) hd KJ)
      have hle := (Mo.le hd2).tr hle
      clear hd2
      refine v_ifZ_eq (tgt := 54) X dX6_run_35 (by decide) (fun q => ?_) (fun q => ?_)
      · have hd := cnd_f q hd
        refine v_iconst (v := 0) X dX6_run_54 (by decide) ?_
        exact v_loc [0, 1] rfl (v_at (P := fun (u23 : Bool) h => V K 3 h 55 [(0, .ref t), (1, .int (b2i p1))] [.int (b2i u23)]) hd KJ)
      · have hd := cnd_t q hd
        refine v_aload_n X dX6_run_38 0 0 rfl rfl ?_
        refine v_aload_n X dX6_run_39 0 0 rfl rfl ?_
        refine v_callUP X hd hle (ct_X6_peek _ t) (gNS_of 0 _ rfl rfl rfl) q679 q2341 q681 q116 q682 dn_X6_peek rfl ⟨by decide, by decide⟩ rfl (Nat.le_of_ble_eq_true rfl) dX6_run_40 (fun v35 h hd => ?_)
        show V K 3 h 43 [(0, .ref t), (1, .int (b2i p1)), (2, .int (b2i s1))] [.int v35, .ref t]
        refine v_callUP X hd hle (ct_X6_isLetter _ t v35) (gNS_of 1 _ rfl rfl rfl) q683 q2342 q685 q116 q686 dn_X6_isLetter rfl ⟨by decide, by decide⟩ rfl (Nat.le_of_ble_eq_true rfl) dX6_run_43 (fun v36 h hd => ?_)
        show V K 3 h 46 [(0, .ref t), (1, .int (b2i p1)), (2, .int (b2i s1))] [.int (b2i v36)]
        refine v_iload_n X dX6_run_46 1 1 rfl rfl ?_
        refine v_icmp_ne (tgt := 54) X dX6_run_47 (by decide) (fun q => ?_) (fun q => ?_)
        · have hd := ite_f q hd
          refine v_iconst (v := 0) X dX6_run_54 (by decide) ?_
          exact v_loc [0, 1] rfl (v_at (P := fun (u23 : Bool) h => V K 3 h 55 [(0, .ref t), (1, .int (b2i p1))] [.int (b2i u23)]) hd KJ)
        · have hd := ite_t q hd
          refine v_iconst (v := 1) X dX6_run_50 (by decide) ?_
          refine v_goto (tgt := 55) X dX6_run_51 (by decide) ?_
          exact v_loc [0, 1] rfl (v_at (P := fun (u23 : Bool) h => V K 3 h 55 [(0, .ref t), (1, .int (b2i p1))] [.int (b2i u23)]) hd KJ)
def dkwX6_next_7 : List UInt8 := [42, 27, 181, 0, 57, 42, 89, 180, 0, 19, 4, 96, 181, 0, 19, 177]
abbrev dktX6_next_7 : List UInt8 := dkwX6_next_7 ++ []
def dkwX6_next_6 : List UInt8 := [16, 41, 159, 0, 14, 27, 16, 60, 16, 62, 184, 0, 32, 153, 0, 7, 6, 167, 0, 4, 7, 181, 0, 43]
abbrev dktX6_next_6 : List UInt8 := dkwX6_next_6 ++ dktX6_next_7
def dkwX6_next_5 : List UInt8 := [182, 0, 46, 182, 0, 53, 167, 0, 56, 42, 27, 16, 59, 159, 0, 26, 27, 16, 40, 159, 0, 20, 27]
abbrev dktX6_next_5 : List UInt8 := dkwX6_next_5 ++ dktX6_next_6
def dkwX6_next_4 : List UInt8 := [167, 0, 84, 42, 27, 182, 0, 46, 154, 0, 11, 42, 27, 182, 0, 50, 153, 0, 15, 42, 42, 27]
abbrev dktX6_next_4 : List UInt8 := dkwX6_next_4 ++ dktX6_next_5
def dkwX6_next_3 : List UInt8 := [181, 0, 40, 42, 7, 181, 0, 43, 177, 42, 182, 0, 36, 60, 27, 156, 0, 11, 42, 3, 181, 0, 43]
abbrev dktX6_next_3 : List UInt8 := dkwX6_next_3 ++ dktX6_next_4
def dkwX6_next_2 : List UInt8 := [180, 0, 15, 164, 0, 28, 42, 180, 0, 19, 42, 180, 0, 15, 161, 0, 17, 42, 42, 180, 0, 15]
abbrev dktX6_next_2 : List UInt8 := dkwX6_next_2 ++ dktX6_next_3
def dkwX6_next_1 : List UInt8 := [96, 181, 0, 19, 167, 255, 228, 42, 42, 180, 0, 19, 181, 0, 40, 42, 180, 0, 3, 180, 0, 25, 42]
abbrev dktX6_next_1 : List UInt8 := dkwX6_next_1 ++ dktX6_next_2
def dkwX6_next_0 : List UInt8 := [42, 182, 0, 36, 16, 32, 159, 0, 12, 42, 182, 0, 36, 16, 10, 160, 0, 16, 42, 89, 180, 0, 19, 4]
abbrev dktX6_next_0 : List UInt8 := dkwX6_next_0 ++ dktX6_next_1
theorem dksX6_next_0 : cX6_next.data.toList.drop 0 = dktX6_next_0 := by decide +kernel
theorem dksX6_next_1 : cX6_next.data.toList.drop 24 = dktX6_next_1 := dk_seg dksX6_next_0 24 rfl rfl
theorem dksX6_next_2 : cX6_next.data.toList.drop 47 = dktX6_next_2 := dk_seg dksX6_next_1 23 rfl rfl
theorem dksX6_next_3 : cX6_next.data.toList.drop 69 = dktX6_next_3 := dk_seg dksX6_next_2 22 rfl rfl
theorem dksX6_next_4 : cX6_next.data.toList.drop 92 = dktX6_next_4 := dk_seg dksX6_next_3 23 rfl rfl
theorem dksX6_next_5 : cX6_next.data.toList.drop 114 = dktX6_next_5 := dk_seg dksX6_next_4 22 rfl rfl
theorem dksX6_next_6 : cX6_next.data.toList.drop 137 = dktX6_next_6 := dk_seg dksX6_next_5 23 rfl rfl
theorem dksX6_next_7 : cX6_next.data.toList.drop 161 = dktX6_next_7 := dk_seg dksX6_next_6 24 rfl rfl
theorem dX6_next_0 : decode cX6_next 0 = .ok (.aload_n 0, 1) := dk_42 (dk_at dksX6_next_0 0 rfl rfl)
theorem dX6_next_1 : decode cX6_next 1 = .ok (.invokevirtual 36, 3) := dk_182 0 36 (dk_at dksX6_next_0 1 rfl rfl)
theorem dX6_next_4 : decode cX6_next 4 = .ok (.bipush 32, 2) := dk_16 32 (dk_at dksX6_next_0 4 rfl rfl)
theorem dX6_next_6 : decode cX6_next 6 = .ok (.if_icmp .eq 12, 3) := dk_159 0 12 (dk_at dksX6_next_0 6 rfl rfl)
theorem dX6_next_9 : decode cX6_next 9 = .ok (.aload_n 0, 1) := dk_42 (dk_at dksX6_next_0 9 rfl rfl)
theorem dX6_next_10 : decode cX6_next 10 = .ok (.invokevirtual 36, 3) := dk_182 0 36 (dk_at dksX6_next_0 10 rfl rfl)
theorem dX6_next_13 : decode cX6_next 13 = .ok (.bipush 10, 2) := dk_16 10 (dk_at dksX6_next_0 13 rfl rfl)
theorem dX6_next_15 : decode cX6_next 15 = .ok (.if_icmp .ne 16, 3) := dk_160 0 16 (dk_at dksX6_next_0 15 rfl rfl)
theorem dX6_next_18 : decode cX6_next 18 = .ok (.aload_n 0, 1) := dk_42 (dk_at dksX6_next_0 18 rfl rfl)
theorem dX6_next_19 : decode cX6_next 19 = .ok (.dup, 1) := dk_89 (dk_at dksX6_next_0 19 rfl rfl)
theorem dX6_next_20 : decode cX6_next 20 = .ok (.getfield 19, 3) := dk_180 0 19 (dk_at dksX6_next_0 20 rfl rfl)
theorem dX6_next_23 : decode cX6_next 23 = .ok (.iconst 1, 1) := dk_4 (dk_at dksX6_next_0 23 rfl rfl)
theorem dX6_next_24 : decode cX6_next 24 = .ok (.iadd, 1) := dk_96 (dk_at dksX6_next_1 0 rfl rfl)
theorem dX6_next_25 : decode cX6_next 25 = .ok (.putfield 19, 3) := dk_181 0 19 (dk_at dksX6_next_1 1 rfl rfl)
theorem dX6_next_28 : decode cX6_next 28 = .ok (.goto (-28), 3) := dk_167 255 228 (dk_at dksX6_next_1 4 rfl rfl)
theorem dX6_next_31 : decode cX6_next 31 = .ok (.aload_n 0, 1) := dk_42 (dk_at dksX6_next_1 7 rfl rfl)
theorem dX6_next_32 : decode cX6_next 32 = .ok (.aload_n 0, 1) := dk_42 (dk_at dksX6_next_1 8 rfl rfl)
theorem dX6_next_33 : decode cX6_next 33 = .ok (.getfield 19, 3) := dk_180 0 19 (dk_at dksX6_next_1 9 rfl rfl)
theorem dX6_next_36 : decode cX6_next 36 = .ok (.putfield 40, 3) := dk_181 0 40 (dk_at dksX6_next_1 12 rfl rfl)
theorem dX6_next_39 : decode cX6_next 39 = .ok (.aload_n 0, 1) := dk_42 (dk_at dksX6_next_1 15 rfl rfl)
theorem dX6_next_40 : decode cX6_next 40 = .ok (.getfield 3, 3) := dk_180 0 3 (dk_at dksX6_next_1 16 rfl rfl)
theorem dX6_next_43 : decode cX6_next 43 = .ok (.getfield 25, 3) := dk_180 0 25 (dk_at dksX6_next_1 19 rfl rfl)
theorem dX6_next_46 : decode cX6_next 46 = .ok (.aload_n 0, 1) := dk_42 (dk_at dksX6_next_1 22 rfl rfl)
theorem dX6_next_47 : decode cX6_next 47 = .ok (.getfield 15, 3) := dk_180 0 15 (dk_at dksX6_next_2 0 rfl rfl)
theorem dX6_next_50 : decode cX6_next 50 = .ok (.if_icmp .le 28, 3) := dk_164 0 28 (dk_at dksX6_next_2 3 rfl rfl)
theorem dX6_next_53 : decode cX6_next 53 = .ok (.aload_n 0, 1) := dk_42 (dk_at dksX6_next_2 6 rfl rfl)
theorem dX6_next_54 : decode cX6_next 54 = .ok (.getfield 19, 3) := dk_180 0 19 (dk_at dksX6_next_2 7 rfl rfl)
theorem dX6_next_57 : decode cX6_next 57 = .ok (.aload_n 0, 1) := dk_42 (dk_at dksX6_next_2 10 rfl rfl)
theorem dX6_next_58 : decode cX6_next 58 = .ok (.getfield 15, 3) := dk_180 0 15 (dk_at dksX6_next_2 11 rfl rfl)
theorem dX6_next_61 : decode cX6_next 61 = .ok (.if_icmp .lt 17, 3) := dk_161 0 17 (dk_at dksX6_next_2 14 rfl rfl)
theorem dX6_next_64 : decode cX6_next 64 = .ok (.aload_n 0, 1) := dk_42 (dk_at dksX6_next_2 17 rfl rfl)
theorem dX6_next_65 : decode cX6_next 65 = .ok (.aload_n 0, 1) := dk_42 (dk_at dksX6_next_2 18 rfl rfl)
theorem dX6_next_66 : decode cX6_next 66 = .ok (.getfield 15, 3) := dk_180 0 15 (dk_at dksX6_next_2 19 rfl rfl)
theorem dX6_next_69 : decode cX6_next 69 = .ok (.putfield 40, 3) := dk_181 0 40 (dk_at dksX6_next_3 0 rfl rfl)
theorem dX6_next_72 : decode cX6_next 72 = .ok (.aload_n 0, 1) := dk_42 (dk_at dksX6_next_3 3 rfl rfl)
theorem dX6_next_73 : decode cX6_next 73 = .ok (.iconst 4, 1) := dk_7 (dk_at dksX6_next_3 4 rfl rfl)
theorem dX6_next_74 : decode cX6_next 74 = .ok (.putfield 43, 3) := dk_181 0 43 (dk_at dksX6_next_3 5 rfl rfl)
theorem dX6_next_77 : decode cX6_next 77 = .ok (.return_, 1) := dk_177 (dk_at dksX6_next_3 8 rfl rfl)
theorem dX6_next_78 : decode cX6_next 78 = .ok (.aload_n 0, 1) := dk_42 (dk_at dksX6_next_3 9 rfl rfl)
theorem dX6_next_79 : decode cX6_next 79 = .ok (.invokevirtual 36, 3) := dk_182 0 36 (dk_at dksX6_next_3 10 rfl rfl)
theorem dX6_next_82 : decode cX6_next 82 = .ok (.istore_n 1, 1) := dk_60 (dk_at dksX6_next_3 13 rfl rfl)
theorem dX6_next_83 : decode cX6_next 83 = .ok (.iload_n 1, 1) := dk_27 (dk_at dksX6_next_3 14 rfl rfl)
theorem dX6_next_84 : decode cX6_next 84 = .ok (.ifCond .ge 11, 3) := dk_156 0 11 (dk_at dksX6_next_3 15 rfl rfl)
theorem dX6_next_87 : decode cX6_next 87 = .ok (.aload_n 0, 1) := dk_42 (dk_at dksX6_next_3 18 rfl rfl)
theorem dX6_next_88 : decode cX6_next 88 = .ok (.iconst 0, 1) := dk_3 (dk_at dksX6_next_3 19 rfl rfl)
theorem dX6_next_89 : decode cX6_next 89 = .ok (.putfield 43, 3) := dk_181 0 43 (dk_at dksX6_next_3 20 rfl rfl)
theorem dX6_next_92 : decode cX6_next 92 = .ok (.goto 84, 3) := dk_167 0 84 (dk_at dksX6_next_4 0 rfl rfl)
theorem dX6_next_95 : decode cX6_next 95 = .ok (.aload_n 0, 1) := dk_42 (dk_at dksX6_next_4 3 rfl rfl)
theorem dX6_next_96 : decode cX6_next 96 = .ok (.iload_n 1, 1) := dk_27 (dk_at dksX6_next_4 4 rfl rfl)
theorem dX6_next_97 : decode cX6_next 97 = .ok (.invokevirtual 46, 3) := dk_182 0 46 (dk_at dksX6_next_4 5 rfl rfl)
theorem dX6_next_100 : decode cX6_next 100 = .ok (.ifCond .ne 11, 3) := dk_154 0 11 (dk_at dksX6_next_4 8 rfl rfl)
theorem dX6_next_103 : decode cX6_next 103 = .ok (.aload_n 0, 1) := dk_42 (dk_at dksX6_next_4 11 rfl rfl)
theorem dX6_next_104 : decode cX6_next 104 = .ok (.iload_n 1, 1) := dk_27 (dk_at dksX6_next_4 12 rfl rfl)
theorem dX6_next_105 : decode cX6_next 105 = .ok (.invokevirtual 50, 3) := dk_182 0 50 (dk_at dksX6_next_4 13 rfl rfl)
theorem dX6_next_108 : decode cX6_next 108 = .ok (.ifCond .eq 15, 3) := dk_153 0 15 (dk_at dksX6_next_4 16 rfl rfl)
theorem dX6_next_111 : decode cX6_next 111 = .ok (.aload_n 0, 1) := dk_42 (dk_at dksX6_next_4 19 rfl rfl)
theorem dX6_next_112 : decode cX6_next 112 = .ok (.aload_n 0, 1) := dk_42 (dk_at dksX6_next_4 20 rfl rfl)
theorem dX6_next_113 : decode cX6_next 113 = .ok (.iload_n 1, 1) := dk_27 (dk_at dksX6_next_4 21 rfl rfl)
theorem dX6_next_114 : decode cX6_next 114 = .ok (.invokevirtual 46, 3) := dk_182 0 46 (dk_at dksX6_next_5 0 rfl rfl)
theorem dX6_next_117 : decode cX6_next 117 = .ok (.invokevirtual 53, 3) := dk_182 0 53 (dk_at dksX6_next_5 3 rfl rfl)
theorem dX6_next_120 : decode cX6_next 120 = .ok (.goto 56, 3) := dk_167 0 56 (dk_at dksX6_next_5 6 rfl rfl)
theorem dX6_next_123 : decode cX6_next 123 = .ok (.aload_n 0, 1) := dk_42 (dk_at dksX6_next_5 9 rfl rfl)
theorem dX6_next_124 : decode cX6_next 124 = .ok (.iload_n 1, 1) := dk_27 (dk_at dksX6_next_5 10 rfl rfl)
theorem dX6_next_125 : decode cX6_next 125 = .ok (.bipush 59, 2) := dk_16 59 (dk_at dksX6_next_5 11 rfl rfl)
theorem dX6_next_127 : decode cX6_next 127 = .ok (.if_icmp .eq 26, 3) := dk_159 0 26 (dk_at dksX6_next_5 13 rfl rfl)
theorem dX6_next_130 : decode cX6_next 130 = .ok (.iload_n 1, 1) := dk_27 (dk_at dksX6_next_5 16 rfl rfl)
theorem dX6_next_131 : decode cX6_next 131 = .ok (.bipush 40, 2) := dk_16 40 (dk_at dksX6_next_5 17 rfl rfl)
theorem dX6_next_133 : decode cX6_next 133 = .ok (.if_icmp .eq 20, 3) := dk_159 0 20 (dk_at dksX6_next_5 19 rfl rfl)
theorem dX6_next_136 : decode cX6_next 136 = .ok (.iload_n 1, 1) := dk_27 (dk_at dksX6_next_5 22 rfl rfl)
theorem dX6_next_137 : decode cX6_next 137 = .ok (.bipush 41, 2) := dk_16 41 (dk_at dksX6_next_6 0 rfl rfl)
theorem dX6_next_139 : decode cX6_next 139 = .ok (.if_icmp .eq 14, 3) := dk_159 0 14 (dk_at dksX6_next_6 2 rfl rfl)
theorem dX6_next_142 : decode cX6_next 142 = .ok (.iload_n 1, 1) := dk_27 (dk_at dksX6_next_6 5 rfl rfl)
theorem dX6_next_143 : decode cX6_next 143 = .ok (.bipush 60, 2) := dk_16 60 (dk_at dksX6_next_6 6 rfl rfl)
theorem dX6_next_145 : decode cX6_next 145 = .ok (.bipush 62, 2) := dk_16 62 (dk_at dksX6_next_6 8 rfl rfl)
theorem dX6_next_147 : decode cX6_next 147 = .ok (.invokestatic 32, 3) := dk_184 0 32 (dk_at dksX6_next_6 10 rfl rfl)
theorem dX6_next_150 : decode cX6_next 150 = .ok (.ifCond .eq 7, 3) := dk_153 0 7 (dk_at dksX6_next_6 13 rfl rfl)
theorem dX6_next_153 : decode cX6_next 153 = .ok (.iconst 3, 1) := dk_6 (dk_at dksX6_next_6 16 rfl rfl)
theorem dX6_next_154 : decode cX6_next 154 = .ok (.goto 4, 3) := dk_167 0 4 (dk_at dksX6_next_6 17 rfl rfl)
theorem dX6_next_157 : decode cX6_next 157 = .ok (.iconst 4, 1) := dk_7 (dk_at dksX6_next_6 20 rfl rfl)
theorem dX6_next_158 : decode cX6_next 158 = .ok (.putfield 43, 3) := dk_181 0 43 (dk_at dksX6_next_6 21 rfl rfl)
theorem dX6_next_161 : decode cX6_next 161 = .ok (.aload_n 0, 1) := dk_42 (dk_at dksX6_next_7 0 rfl rfl)
theorem dX6_next_162 : decode cX6_next 162 = .ok (.iload_n 1, 1) := dk_27 (dk_at dksX6_next_7 1 rfl rfl)
theorem dX6_next_163 : decode cX6_next 163 = .ok (.putfield 57, 3) := dk_181 0 57 (dk_at dksX6_next_7 2 rfl rfl)
theorem dX6_next_166 : decode cX6_next 166 = .ok (.aload_n 0, 1) := dk_42 (dk_at dksX6_next_7 5 rfl rfl)
theorem dX6_next_167 : decode cX6_next 167 = .ok (.dup, 1) := dk_89 (dk_at dksX6_next_7 6 rfl rfl)
theorem dX6_next_168 : decode cX6_next 168 = .ok (.getfield 19, 3) := dk_180 0 19 (dk_at dksX6_next_7 7 rfl rfl)
theorem dX6_next_171 : decode cX6_next 171 = .ok (.iconst 1, 1) := dk_4 (dk_at dksX6_next_7 10 rfl rfl)
theorem dX6_next_172 : decode cX6_next 172 = .ok (.iadd, 1) := dk_96 (dk_at dksX6_next_7 11 rfl rfl)
theorem dX6_next_173 : decode cX6_next 173 = .ok (.putfield 19, 3) := dk_181 0 19 (dk_at dksX6_next_7 12 rfl rfl)
theorem dX6_next_176 : decode cX6_next 176 = .ok (.return_, 1) := dk_177 (dk_at dksX6_next_7 15 rfl rfl)
theorem fl_X6_15 : gFl "BitingDoors$Reader" 15 [5, 6, 7] 0 := by
  intro args s hts hN ci hc
  simp only [List.mem_cons, List.not_mem_nil, or_false] at hc
  rcases hc with rfl | rfl | rfl
  · exact ⟨RX7, TX7, 10, "BitingDoors$Reader", gCl_X7, in_X7, by decide, Or.inl (hts _ q387), fun _ h => h⟩
  · exact ⟨RX8, TX8, 9, "BitingDoors$Reader", gCl_X8, in_X8, by decide, Or.inl (hts _ q387), fun _ h => h⟩
  · exact ⟨RX9, TX9, 12, "BitingDoors$Reader", gCl_X9, in_X9, by decide, Or.inl (hts _ q387), fun _ h => h⟩
theorem fp_X6_40 {nm : String} : gFp "BitingDoors$Reader" nm 40 [5, 6, 7] 2 .int := by
  intro args s hts hN ci hc
  simp only [List.mem_cons, List.not_mem_nil, or_false] at hc
  rcases hc with rfl | rfl | rfl
  · exact ⟨RX7, TX7, 10, "BitingDoors$Reader", gCl_X7, in_X7, by decide, Or.inl ⟨rfl, Or.inl (hts _ q391)⟩, fun _ h => h, rfl, fun D tys hK => gap_X7 hts hK⟩
  · exact ⟨RX8, TX8, 9, "BitingDoors$Reader", gCl_X8, in_X8, by decide, Or.inl ⟨rfl, Or.inl (hts _ q391)⟩, fun _ h => h, rfl, fun D tys hK => gap_X8 hts hK⟩
  · exact ⟨RX9, TX9, 12, "BitingDoors$Reader", gCl_X9, in_X9, by decide, Or.inl ⟨rfl, Or.inl (hts _ q391)⟩, fun _ h => h, rfl, fun D tys hK => gap_X9 hts hK⟩
theorem dn_X6_next : yX6_next.cls ≠ "java/lang/invoke/MethodHandle" ∧ yX6_next.cls ≠ "java/lang/invoke/VarHandle" ∧ (parseMethodDescriptor yX6_next.desc).map (fun d => d.parameters.length) = some 0 := by decide +kernel
noncomputable def M_X6_next (t : Nat) : Mo Unit := Mo.bind (chk [5, 6, 7] t) (fun _ => Mo.bind (Mo.loop (S := Unit) (E := Unit) (fun s1 => Mo.bind (Mo.bind (chk [5, 6, 7] t) (fun _ => M_X6_peek t)) (fun v5 => if v5 = 32 then Mo.bind (gI [5, 6, 7] t 1) (fun v6 => Mo.bind (pF [5, 6, 7] t 1 (.int (v6 + 1))) (fun _ => Mo.pure (Sum.inl ()))) else Mo.bind (Mo.bind (chk [5, 6, 7] t) (fun _ => M_X6_peek t)) (fun v7 => if v7 = 10 then Mo.bind (gI [5, 6, 7] t 1) (fun v8 => Mo.bind (pF [5, 6, 7] t 1 (.int (v8 + 1))) (fun _ => Mo.pure (Sum.inl ()))) else Mo.pure (Sum.inr ())))) ()) (fun e4 => Mo.bind (gI [5, 6, 7] t 1) (fun v9 => Mo.bind (pF [5, 6, 7] t 2 (.int v9)) (fun _ => Mo.bind (gR [5, 6, 7] t 7) (fun v10 => Mo.bind (gI [0] v10 2) (fun v11 => Mo.bind (gI [5, 6, 7] t 0) (fun v12 => if v11 ≤ v12 then Mo.bind (Mo.bind (chk [5, 6, 7] t) (fun _ => M_X6_peek t)) (fun v13 => Mo.bind ((if 0 ≤ v13 then Mo.bind (Mo.bind (chk [5, 6, 7] t) (fun _ => M_X6_isLetter t v13)) (fun v15 => cond v15 (Mo.bind (Mo.bind (chk [5, 6, 7] t) (fun _ => M_X6_isLetter t v13)) (fun v16 => Mo.bind (Mo.bind (chk [5, 6, 7] t) (fun _ => M_X6_run t v16)) (fun v17 => Mo.pure ()))) (Mo.bind (Mo.bind (chk [5, 6, 7] t) (fun _ => M_X6_isDigit t v13)) (fun v18 => cond v18 (Mo.bind (Mo.bind (chk [5, 6, 7] t) (fun _ => M_X6_isLetter t v13)) (fun v22 => Mo.bind (Mo.bind (chk [5, 6, 7] t) (fun _ => M_X6_run t v22)) (fun v23 => Mo.pure ()))) (Mo.bind ((if v13 = 59 then Mo.pure 3 else if v13 = 40 then Mo.pure 3 else if v13 = 41 then Mo.pure 3 else Mo.bind (M_X1_isIn v13 60 62) (fun v21 => cond v21 (Mo.pure 3) (Mo.pure 4)) : Mo (Int32))) (fun u19 => Mo.bind (pF [5, 6, 7] t 3 (.int u19)) (fun _ => Mo.bind (pF [5, 6, 7] t 4 (.int v13)) (fun _ => Mo.bind (gI [5, 6, 7] t 1) (fun v20 => Mo.bind (pF [5, 6, 7] t 1 (.int (v20 + 1))) (fun _ => Mo.pure ()))))))))) else Mo.bind (pF [5, 6, 7] t 3 (.int 0)) (fun _ => Mo.pure ()) : Mo (Unit))) (fun u14 => Mo.pure ())) else Mo.bind (gI [5, 6, 7] t 1) (fun v24 => Mo.bind (gI [5, 6, 7] t 0) (fun v25 => if v24 < v25 then Mo.bind (Mo.bind (chk [5, 6, 7] t) (fun _ => M_X6_peek t)) (fun v26 => Mo.bind ((if 0 ≤ v26 then Mo.bind (Mo.bind (chk [5, 6, 7] t) (fun _ => M_X6_isLetter t v26)) (fun v28 => cond v28 (Mo.bind (Mo.bind (chk [5, 6, 7] t) (fun _ => M_X6_isLetter t v26)) (fun v29 => Mo.bind (Mo.bind (chk [5, 6, 7] t) (fun _ => M_X6_run t v29)) (fun v30 => Mo.pure ()))) (Mo.bind (Mo.bind (chk [5, 6, 7] t) (fun _ => M_X6_isDigit t v26)) (fun v31 => cond v31 (Mo.bind (Mo.bind (chk [5, 6, 7] t) (fun _ => M_X6_isLetter t v26)) (fun v35 => Mo.bind (Mo.bind (chk [5, 6, 7] t) (fun _ => M_X6_run t v35)) (fun v36 => Mo.pure ()))) (Mo.bind ((if v26 = 59 then Mo.pure 3 else if v26 = 40 then Mo.pure 3 else if v26 = 41 then Mo.pure 3 else Mo.bind (M_X1_isIn v26 60 62) (fun v34 => cond v34 (Mo.pure 3) (Mo.pure 4)) : Mo (Int32))) (fun u32 => Mo.bind (pF [5, 6, 7] t 3 (.int u32)) (fun _ => Mo.bind (pF [5, 6, 7] t 4 (.int v26)) (fun _ => Mo.bind (gI [5, 6, 7] t 1) (fun v33 => Mo.bind (pF [5, 6, 7] t 1 (.int (v33 + 1))) (fun _ => Mo.pure ()))))))))) else Mo.bind (pF [5, 6, 7] t 3 (.int 0)) (fun _ => Mo.pure ()) : Mo (Unit))) (fun u27 => Mo.pure ())) else Mo.bind (gI [5, 6, 7] t 0) (fun v37 => Mo.bind (pF [5, 6, 7] t 2 (.int v37)) (fun _ => Mo.bind (pF [5, 6, 7] t 3 (.int 4)) (fun _ => Mo.pure ()))))))))))))
set_option maxHeartbeats 4000000 in
theorem ct_X6_next (G : gG) (t : Nat) : gCt G yX6_next cX6_next 2 none 3 65 [.ref t] (M_X6_next t) (fun _ : Unit => none) := by
  refine gCt.of (by decide) (Nat.le_of_ble_eq_true rfl) (fun K r hG X hd ho => ?_)
  subst hG
  have X : gX K cX6_next 2 "BitingDoors$Reader" "next" none 3 65 := X
  have hle : gLe (kh1 K) (kh1 K) := gLe.rf
  show V K 2 (kh0 K) 0 [(0, .ref t)] []
  generalize kh0 K = h at hd ⊢
  unfold M_X6_next at hd
  obtain ⟨-, hd⟩ := chk_some hd
  obtain ⟨e4, h1, hd, hd2⟩ := Mo.bind_some hd
  have KX : V K 2 h1 31 [(0, .ref t)] [] := by
    clear hd
    have hd := hd2
    refine v_aload_n X dX6_next_31 0 0 rfl rfl ?_
    refine v_aload_n X dX6_next_32 0 0 rfl rfl ?_
    refine v_getI X hd fl_X6_19 dX6_next_33 (fun v9 hd => ?_)
    refine v_put (v := .int v9) X hd fp_X6_40 rfl rfl dX6_next_36 (fun h hd => ?_)
    refine v_aload_n X dX6_next_39 0 0 rfl rfl ?_
    refine v_getR X hd fl_X6_3 dX6_next_40 (fun v10 hd => ?_)
    refine v_getI X hd fl_X6_25 dX6_next_43 (fun v11 hd => ?_)
    refine v_aload_n X dX6_next_46 0 0 rfl rfl ?_
    refine v_getI X hd fl_X6_15 dX6_next_47 (fun v12 hd => ?_)
    refine v_icmp_le (tgt := 78) X dX6_next_50 (by decide) (fun q => ?_) (fun q => ?_)
    · have hd := ite_t q hd
      refine v_aload_n X dX6_next_78 0 0 rfl rfl ?_
      refine v_callUP X hd hle (ct_X6_peek _ t) (gNS_of 0 _ rfl rfl rfl) q679 q2341 q681 q116 q682 dn_X6_peek rfl ⟨by decide, by decide⟩ rfl (Nat.le_of_ble_eq_true rfl) dX6_next_79 (fun v13 h hd => ?_)
      show V K 2 h 82 [(0, .ref t)] [.int v13]
      refine v_istore_n (lv2 := [(1, .int v13), (0, .ref t)]) X dX6_next_82 1 rfl (by decide) rfl ?_
      refine v_iload_n X dX6_next_83 0 1 rfl rfl ?_
      obtain ⟨u14, h1, hd, hd2⟩ := Mo.bind_some hd
      have KJ : V K 2 h1 176 [] [] := by
        clear hd
        have hd := hd2
        exact v_vret X hd ho dX6_next_176
      have hle := (Mo.le hd2).tr hle
      clear hd2
      refine v_if_ge (tgt := 95) X dX6_next_84 (by decide) (fun q => ?_) (fun q => ?_)
      · have hd := ite_t q hd
        refine v_aload_n X dX6_next_95 1 0 rfl rfl ?_
        refine v_iload_n X dX6_next_96 0 1 rfl rfl ?_
        refine v_callUP X hd hle (ct_X6_isLetter _ t v13) (gNS_of 1 _ rfl rfl rfl) q683 q2342 q685 q116 q686 dn_X6_isLetter rfl ⟨by decide, by decide⟩ rfl (Nat.le_of_ble_eq_true rfl) dX6_next_97 (fun v15 h hd => ?_)
        show V K 2 h 100 [(1, .int v13), (0, .ref t)] [.int (b2i v15)]
        refine v_ifZ_ne (tgt := 111) X dX6_next_100 (by decide) (fun q => ?_) (fun q => ?_)
        · have hd := cnd_t q hd
          refine v_aload_n X dX6_next_111 1 0 rfl rfl ?_
          refine v_aload_n X dX6_next_112 1 0 rfl rfl ?_
          refine v_iload_n X dX6_next_113 0 1 rfl rfl ?_
          refine v_callUP X hd hle (ct_X6_isLetter _ t v13) (gNS_of 1 _ rfl rfl rfl) q683 q2342 q685 q116 q686 dn_X6_isLetter rfl ⟨by decide, by decide⟩ rfl (Nat.le_of_ble_eq_true rfl) dX6_next_114 (fun v16 h hd => ?_)
          show V K 2 h 117 [(1, .int v13), (0, .ref t)] [.int (b2i v16), .ref t]
          refine v_callUP X hd hle (ct_X6_run _ t v16) (gNS_of 3 _ rfl rfl rfl) q694 q2344 q696 q116 q697 dn_X6_run rfl ⟨by decide, by decide⟩ rfl (Nat.le_of_ble_eq_true rfl) dX6_next_117 (fun v17 h hd => ?_)
          show V K 2 h 120 [(1, .int v13), (0, .ref t)] []
          refine v_goto (tgt := 176) X dX6_next_120 (by decide) ?_
          exact v_loc [] rfl (v_at (P := fun (u14 : Unit) h => V K 2 h 176 [] []) hd KJ)
        · have hd := cnd_f q hd
          refine v_aload_n X dX6_next_103 1 0 rfl rfl ?_
          refine v_iload_n X dX6_next_104 0 1 rfl rfl ?_
          refine v_callUP X hd hle (ct_X6_isDigit _ t v13) (gNS_of 2 _ rfl rfl rfl) q690 q2343 q692 q116 q693 dn_X6_isDigit rfl ⟨by decide, by decide⟩ rfl (Nat.le_of_ble_eq_true rfl) dX6_next_105 (fun v18 h hd => ?_)
          show V K 2 h 108 [(1, .int v13), (0, .ref t)] [.int (b2i v18)]
          refine v_ifZ_eq (tgt := 123) X dX6_next_108 (by decide) (fun q => ?_) (fun q => ?_)
          · have hd := cnd_f q hd
            refine v_aload_n X dX6_next_123 1 0 rfl rfl ?_
            refine v_iload_n X dX6_next_124 0 1 rfl rfl ?_
            refine v_bipush (v := 59) X dX6_next_125 (by decide) ?_
            obtain ⟨u19, h1, hd, hd2⟩ := Mo.bind_some hd
            have KJ : V K 2 h1 158 [(0, .ref t), (1, .int v13)] [.int u19, .ref t] := by
              clear hd
              have hd := hd2
              refine v_put (v := .int u19) X hd fp_X6_43 rfl rfl dX6_next_158 (fun h hd => ?_)
              refine v_aload_n X dX6_next_161 0 0 rfl rfl ?_
              refine v_iload_n X dX6_next_162 1 1 rfl rfl ?_
              refine v_put (v := .int v13) X hd fp_X6_57 rfl rfl dX6_next_163 (fun h hd => ?_)
              refine v_aload_n X dX6_next_166 0 0 rfl rfl ?_
              refine v_dup X dX6_next_167 rfl ?_
              refine v_getI X hd fl_X6_19 dX6_next_168 (fun v20 hd => ?_)
              refine v_iconst (v := 1) X dX6_next_171 (by decide) ?_
              refine v_iadd X dX6_next_172 ?_
              refine v_put (v := .int (v20 + 1)) X hd fp_X6_19 rfl rfl dX6_next_173 (fun h hd => ?_)
              exact v_loc [] rfl (v_at (P := fun (u14 : Unit) h => V K 2 h 176 [] []) hd KJ)
            have hle := (Mo.le hd2).tr hle
            clear hd2
            refine v_icmp_eq (tgt := 153) X dX6_next_127 (by decide) (fun q => ?_) (fun q => ?_)
            · have hd := ite_t q hd
              refine v_iconst (v := 3) X dX6_next_153 (by decide) ?_
              refine v_goto (tgt := 158) X dX6_next_154 (by decide) ?_
              exact v_loc [1, 0] rfl (v_at (P := fun (u19 : Int32) h => V K 2 h 158 [(0, .ref t), (1, .int v13)] [.int u19, .ref t]) hd KJ)
            · have hd := ite_f q hd
              refine v_iload_n X dX6_next_130 0 1 rfl rfl ?_
              refine v_bipush (v := 40) X dX6_next_131 (by decide) ?_
              refine v_icmp_eq (tgt := 153) X dX6_next_133 (by decide) (fun q => ?_) (fun q => ?_)
              · have hd := ite_t q hd
                refine v_iconst (v := 3) X dX6_next_153 (by decide) ?_
                refine v_goto (tgt := 158) X dX6_next_154 (by decide) ?_
                exact v_loc [1, 0] rfl (v_at (P := fun (u19 : Int32) h => V K 2 h 158 [(0, .ref t), (1, .int v13)] [.int u19, .ref t]) hd KJ)
              · have hd := ite_f q hd
                refine v_iload_n X dX6_next_136 0 1 rfl rfl ?_
                refine v_bipush (v := 41) X dX6_next_137 (by decide) ?_
                refine v_icmp_eq (tgt := 153) X dX6_next_139 (by decide) (fun q => ?_) (fun q => ?_)
                · have hd := ite_t q hd
                  refine v_iconst (v := 3) X dX6_next_153 (by decide) ?_
                  refine v_goto (tgt := 158) X dX6_next_154 (by decide) ?_
                  exact v_loc [1, 0] rfl (v_at (P := fun (u19 : Int32) h => V K 2 h 158 [(0, .ref t), (1, .int v13)] [.int u19, .ref t]) hd KJ)
                · have hd := ite_f q hd
                  refine v_iload_n X dX6_next_142 0 1 rfl rfl ?_
                  refine v_bipush (v := 60) X dX6_next_143 (by decide) ?_
                  refine v_bipush (v := 62) X dX6_next_145 (by decide) ?_
                  refine v_callSN (host := "BitingDoors") X hd hle (ct_X1_isIn _ v13 60 62) (List.mem_of_getElem? (i := 6) rfl) q689 q688 q109 dn_X1_isIn rfl ⟨by decide, by decide⟩ rfl (Nat.le_of_ble_eq_true rfl) dX6_next_147 (fun v21 h hd => ?_)
                  show V K 2 h 150 [(1, .int v13), (0, .ref t)] [.int (b2i v21), .ref t]
                  refine v_ifZ_eq (tgt := 157) X dX6_next_150 (by decide) (fun q => ?_) (fun q => ?_)
                  · have hd := cnd_f q hd
                    refine v_iconst (v := 4) X dX6_next_157 (by decide) ?_
                    exact v_loc [1, 0] rfl (v_at (P := fun (u19 : Int32) h => V K 2 h 158 [(0, .ref t), (1, .int v13)] [.int u19, .ref t]) hd KJ)
                  · have hd := cnd_t q hd
                    refine v_iconst (v := 3) X dX6_next_153 (by decide) ?_
                    refine v_goto (tgt := 158) X dX6_next_154 (by decide) ?_
                    exact v_loc [1, 0] rfl (v_at (P := fun (u19 : Int32) h => V K 2 h 158 [(0, .ref t), (1, .int v13)] [.int u19, .ref t]) hd KJ)
          · have hd := cnd_t q hd
            refine v_aload_n X dX6_next_111 1 0 rfl rfl ?_
            refine v_aload_n X dX6_next_112 1 0 rfl rfl ?_
            refine v_iload_n X dX6_next_113 0 1 rfl rfl ?_
            refine v_callUP X hd hle (ct_X6_isLetter _ t v13) (gNS_of 1 _ rfl rfl rfl) q683 q2342 q685 q116 q686 dn_X6_isLetter rfl ⟨by decide, by decide⟩ rfl (Nat.le_of_ble_eq_true rfl) dX6_next_114 (fun v22 h hd => ?_)
            show V K 2 h 117 [(1, .int v13), (0, .ref t)] [.int (b2i v22), .ref t]
            refine v_callUP X hd hle (ct_X6_run _ t v22) (gNS_of 3 _ rfl rfl rfl) q694 q2344 q696 q116 q697 dn_X6_run rfl ⟨by decide, by decide⟩ rfl (Nat.le_of_ble_eq_true rfl) dX6_next_117 (fun v23 h hd => ?_)
            show V K 2 h 120 [(1, .int v13), (0, .ref t)] []
            refine v_goto (tgt := 176) X dX6_next_120 (by decide) ?_
            exact v_loc [] rfl (v_at (P := fun (u14 : Unit) h => V K 2 h 176 [] []) hd KJ)
      · have hd := ite_f q hd
        refine v_aload_n X dX6_next_87 1 0 rfl rfl ?_
        refine v_iconst (v := 0) X dX6_next_88 (by decide) ?_
        refine v_put (v := .int 0) X hd fp_X6_43 rfl rfl dX6_next_89 (fun h hd => ?_)
        refine v_goto (tgt := 176) X dX6_next_92 (by decide) ?_
        exact v_loc [] rfl (v_at (P := fun (u14 : Unit) h => V K 2 h 176 [] []) hd KJ)
    · have hd := ite_f q hd
      refine v_aload_n X dX6_next_53 0 0 rfl rfl ?_
      refine v_getI X hd fl_X6_19 dX6_next_54 (fun v24 hd => ?_)
      refine v_aload_n X dX6_next_57 0 0 rfl rfl ?_
      refine v_getI X hd fl_X6_15 dX6_next_58 (fun v25 hd => ?_)
      refine v_icmp_lt (tgt := 78) X dX6_next_61 (by decide) (fun q => ?_) (fun q => ?_)
      · have hd := ite_t q hd
        refine v_aload_n X dX6_next_78 0 0 rfl rfl ?_
        refine v_callUP X hd hle (ct_X6_peek _ t) (gNS_of 0 _ rfl rfl rfl) q679 q2341 q681 q116 q682 dn_X6_peek rfl ⟨by decide, by decide⟩ rfl (Nat.le_of_ble_eq_true rfl) dX6_next_79 (fun v26 h hd => ?_)
        show V K 2 h 82 [(0, .ref t)] [.int v26]
        refine v_istore_n (lv2 := [(1, .int v26), (0, .ref t)]) X dX6_next_82 1 rfl (by decide) rfl ?_
        refine v_iload_n X dX6_next_83 0 1 rfl rfl ?_
        obtain ⟨u27, h1, hd, hd2⟩ := Mo.bind_some hd
        have KJ : V K 2 h1 176 [] [] := by
          clear hd
          have hd := hd2
          exact v_vret X hd ho dX6_next_176
        have hle := (Mo.le hd2).tr hle
        clear hd2
        refine v_if_ge (tgt := 95) X dX6_next_84 (by decide) (fun q => ?_) (fun q => ?_)
        · have hd := ite_t q hd
          refine v_aload_n X dX6_next_95 1 0 rfl rfl ?_
          refine v_iload_n X dX6_next_96 0 1 rfl rfl ?_
          refine v_callUP X hd hle (ct_X6_isLetter _ t v26) (gNS_of 1 _ rfl rfl rfl) q683 q2342 q685 q116 q686 dn_X6_isLetter rfl ⟨by decide, by decide⟩ rfl (Nat.le_of_ble_eq_true rfl) dX6_next_97 (fun v28 h hd => ?_)
          show V K 2 h 100 [(1, .int v26), (0, .ref t)] [.int (b2i v28)]
          refine v_ifZ_ne (tgt := 111) X dX6_next_100 (by decide) (fun q => ?_) (fun q => ?_)
          · have hd := cnd_t q hd
            refine v_aload_n X dX6_next_111 1 0 rfl rfl ?_
            refine v_aload_n X dX6_next_112 1 0 rfl rfl ?_
            refine v_iload_n X dX6_next_113 0 1 rfl rfl ?_
            refine v_callUP X hd hle (ct_X6_isLetter _ t v26) (gNS_of 1 _ rfl rfl rfl) q683 q2342 q685 q116 q686 dn_X6_isLetter rfl ⟨by decide, by decide⟩ rfl (Nat.le_of_ble_eq_true rfl) dX6_next_114 (fun v29 h hd => ?_)
            show V K 2 h 117 [(1, .int v26), (0, .ref t)] [.int (b2i v29), .ref t]
            refine v_callUP X hd hle (ct_X6_run _ t v29) (gNS_of 3 _ rfl rfl rfl) q694 q2344 q696 q116 q697 dn_X6_run rfl ⟨by decide, by decide⟩ rfl (Nat.le_of_ble_eq_true rfl) dX6_next_117 (fun v30 h hd => ?_)
            show V K 2 h 120 [(1, .int v26), (0, .ref t)] []
            refine v_goto (tgt := 176) X dX6_next_120 (by decide) ?_
            exact v_loc [] rfl (v_at (P := fun (u27 : Unit) h => V K 2 h 176 [] []) hd KJ)
          · have hd := cnd_f q hd
            refine v_aload_n X dX6_next_103 1 0 rfl rfl ?_
            refine v_iload_n X dX6_next_104 0 1 rfl rfl ?_
            refine v_callUP X hd hle (ct_X6_isDigit _ t v26) (gNS_of 2 _ rfl rfl rfl) q690 q2343 q692 q116 q693 dn_X6_isDigit rfl ⟨by decide, by decide⟩ rfl (Nat.le_of_ble_eq_true rfl) dX6_next_105 (fun v31 h hd => ?_)
            show V K 2 h 108 [(1, .int v26), (0, .ref t)] [.int (b2i v31)]
            refine v_ifZ_eq (tgt := 123) X dX6_next_108 (by decide) (fun q => ?_) (fun q => ?_)
            · have hd := cnd_f q hd
              refine v_aload_n X dX6_next_123 1 0 rfl rfl ?_
              refine v_iload_n X dX6_next_124 0 1 rfl rfl ?_
              refine v_bipush (v := 59) X dX6_next_125 (by decide) ?_
              obtain ⟨u32, h1, hd, hd2⟩ := Mo.bind_some hd
              have KJ : V K 2 h1 158 [(0, .ref t), (1, .int v26)] [.int u32, .ref t] := by
                clear hd
                have hd := hd2
                refine v_put (v := .int u32) X hd fp_X6_43 rfl rfl dX6_next_158 (fun h hd => ?_)
                refine v_aload_n X dX6_next_161 0 0 rfl rfl ?_
                refine v_iload_n X dX6_next_162 1 1 rfl rfl ?_
                refine v_put (v := .int v26) X hd fp_X6_57 rfl rfl dX6_next_163 (fun h hd => ?_)
                refine v_aload_n X dX6_next_166 0 0 rfl rfl ?_
                refine v_dup X dX6_next_167 rfl ?_
                refine v_getI X hd fl_X6_19 dX6_next_168 (fun v33 hd => ?_)
                refine v_iconst (v := 1) X dX6_next_171 (by decide) ?_
                refine v_iadd X dX6_next_172 ?_
                refine v_put (v := .int (v33 + 1)) X hd fp_X6_19 rfl rfl dX6_next_173 (fun h hd => ?_)
                exact v_loc [] rfl (v_at (P := fun (u27 : Unit) h => V K 2 h 176 [] []) hd KJ)
              have hle := (Mo.le hd2).tr hle
              clear hd2
              refine v_icmp_eq (tgt := 153) X dX6_next_127 (by decide) (fun q => ?_) (fun q => ?_)
              · have hd := ite_t q hd
                refine v_iconst (v := 3) X dX6_next_153 (by decide) ?_
                refine v_goto (tgt := 158) X dX6_next_154 (by decide) ?_
                exact v_loc [1, 0] rfl (v_at (P := fun (u32 : Int32) h => V K 2 h 158 [(0, .ref t), (1, .int v26)] [.int u32, .ref t]) hd KJ)
              · have hd := ite_f q hd
                refine v_iload_n X dX6_next_130 0 1 rfl rfl ?_
                refine v_bipush (v := 40) X dX6_next_131 (by decide) ?_
                refine v_icmp_eq (tgt := 153) X dX6_next_133 (by decide) (fun q => ?_) (fun q => ?_)
                · have hd := ite_t q hd
                  refine v_iconst (v := 3) X dX6_next_153 (by decide) ?_
                  refine v_goto (tgt := 158) X dX6_next_154 (by decide) ?_
                  exact v_loc [1, 0] rfl (v_at (P := fun (u32 : Int32) h => V K 2 h 158 [(0, .ref t), (1, .int v26)] [.int u32, .ref t]) hd KJ)
                · have hd := ite_f q hd
                  refine v_iload_n X dX6_next_136 0 1 rfl rfl ?_
                  refine v_bipush (v := 41) X dX6_next_137 (by decide) ?_
                  refine v_icmp_eq (tgt := 153) X dX6_next_139 (by decide) (fun q => ?_) (fun q => ?_)
                  · have hd := ite_t q hd
                    refine v_iconst (v := 3) X dX6_next_153 (by decide) ?_
                    refine v_goto (tgt := 158) X dX6_next_154 (by decide) ?_
                    exact v_loc [1, 0] rfl (v_at (P := fun (u32 : Int32) h => V K 2 h 158 [(0, .ref t), (1, .int v26)] [.int u32, .ref t]) hd KJ)
                  · have hd := ite_f q hd
                    refine v_iload_n X dX6_next_142 0 1 rfl rfl ?_
                    refine v_bipush (v := 60) X dX6_next_143 (by decide) ?_
                    refine v_bipush (v := 62) X dX6_next_145 (by decide) ?_
                    refine v_callSN (host := "BitingDoors") X hd hle (ct_X1_isIn _ v26 60 62) (List.mem_of_getElem? (i := 6) rfl) q689 q688 q109 dn_X1_isIn rfl ⟨by decide, by decide⟩ rfl (Nat.le_of_ble_eq_true rfl) dX6_next_147 (fun v34 h hd => ?_)
                    show V K 2 h 150 [(1, .int v26), (0, .ref t)] [.int (b2i v34), .ref t]
                    refine v_ifZ_eq (tgt := 157) X dX6_next_150 (by decide) (fun q => ?_) (fun q => ?_)
                    · have hd := cnd_f q hd
                      refine v_iconst (v := 4) X dX6_next_157 (by decide) ?_
                      exact v_loc [1, 0] rfl (v_at (P := fun (u32 : Int32) h => V K 2 h 158 [(0, .ref t), (1, .int v26)] [.int u32, .ref t]) hd KJ)
                    · have hd := cnd_t q hd
                      refine v_iconst (v := 3) X dX6_next_153 (by decide) ?_
                      refine v_goto (tgt := 158) X dX6_next_154 (by decide) ?_
                      exact v_loc [1, 0] rfl (v_at (P := fun (u32 : Int32) h => V K 2 h 158 [(0, .ref t), (1, .int v26)] [.int u32, .ref t]) hd KJ)
            · have hd := cnd_t q hd
              refine v_aload_n X dX6_next_111 1 0 rfl rfl ?_
              refine v_aload_n X dX6_next_112 1 0 rfl rfl ?_
              refine v_iload_n X dX6_next_113 0 1 rfl rfl ?_
              refine v_callUP X hd hle (ct_X6_isLetter _ t v26) (gNS_of 1 _ rfl rfl rfl) q683 q2342 q685 q116 q686 dn_X6_isLetter rfl ⟨by decide, by decide⟩ rfl (Nat.le_of_ble_eq_true rfl) dX6_next_114 (fun v35 h hd => ?_)
              show V K 2 h 117 [(1, .int v26), (0, .ref t)] [.int (b2i v35), .ref t]
              refine v_callUP X hd hle (ct_X6_run _ t v35) (gNS_of 3 _ rfl rfl rfl) q694 q2344 q696 q116 q697 dn_X6_run rfl ⟨by decide, by decide⟩ rfl (Nat.le_of_ble_eq_true rfl) dX6_next_117 (fun v36 h hd => ?_)
              show V K 2 h 120 [(1, .int v26), (0, .ref t)] []
              refine v_goto (tgt := 176) X dX6_next_120 (by decide) ?_
              exact v_loc [] rfl (v_at (P := fun (u27 : Unit) h => V K 2 h 176 [] []) hd KJ)
        · have hd := ite_f q hd
          refine v_aload_n X dX6_next_87 1 0 rfl rfl ?_
          refine v_iconst (v := 0) X dX6_next_88 (by decide) ?_
          refine v_put (v := .int 0) X hd fp_X6_43 rfl rfl dX6_next_89 (fun h hd => ?_)
          refine v_goto (tgt := 176) X dX6_next_92 (by decide) ?_
          exact v_loc [] rfl (v_at (P := fun (u27 : Unit) h => V K 2 h 176 [] []) hd KJ)
      · have hd := ite_f q hd
        refine v_aload_n X dX6_next_64 0 0 rfl rfl ?_
        refine v_aload_n X dX6_next_65 0 0 rfl rfl ?_
        refine v_getI X hd fl_X6_15 dX6_next_66 (fun v37 hd => ?_)
        refine v_put (v := .int v37) X hd fp_X6_40 rfl rfl dX6_next_69 (fun h hd => ?_)
        refine v_aload_n X dX6_next_72 0 0 rfl rfl ?_
        refine v_iconst (v := 4) X dX6_next_73 (by decide) ?_
        refine v_put (v := .int 4) X hd fp_X6_43 rfl rfl dX6_next_74 (fun h hd => ?_)
        exact v_vret X hd ho dX6_next_77
  have hle := (Mo.le hd2).tr hle
  clear hd2
  refine v_loc [0] rfl ?_
  refine loop_ind hd (fun (s1 : Unit) h => V K 2 h 0 [(0, .ref t)] []) (fun s1 h x h2 hd hle0 ih2 ho3 => ?_)
  have hle := hle0.tr hle
  refine v_aload_n X dX6_next_0 0 0 rfl rfl ?_
  refine v_callUP X hd hle (ct_X6_peek _ t) (gNS_of 0 _ rfl rfl rfl) q679 q2341 q681 q116 q682 dn_X6_peek rfl ⟨by decide, by decide⟩ rfl (Nat.le_of_ble_eq_true rfl) dX6_next_1 (fun v5 h hd => ?_)
  show V K 2 h 4 [(0, .ref t)] [.int v5]
  refine v_bipush (v := 32) X dX6_next_4 (by decide) ?_
  refine v_icmp_eq (tgt := 18) X dX6_next_6 (by decide) (fun q => ?_) (fun q => ?_)
  · have hd := ite_t q hd
    refine v_aload_n X dX6_next_18 0 0 rfl rfl ?_
    refine v_dup X dX6_next_19 rfl ?_
    refine v_getI X hd fl_X6_19 dX6_next_20 (fun v6 hd => ?_)
    refine v_iconst (v := 1) X dX6_next_23 (by decide) ?_
    refine v_iadd X dX6_next_24 ?_
    refine v_put (v := .int (v6 + 1)) X hd fp_X6_19 rfl rfl dX6_next_25 (fun h hd => ?_)
    refine v_goto (tgt := 0) X dX6_next_28 (by decide) ?_
    exact v_loc [0] rfl (lp_in (P := fun (s1 : Unit) h => V K 2 h 0 [(0, .ref t)] []) hd ih2)
  · have hd := ite_f q hd
    refine v_aload_n X dX6_next_9 0 0 rfl rfl ?_
    refine v_callUP X hd hle (ct_X6_peek _ t) (gNS_of 0 _ rfl rfl rfl) q679 q2341 q681 q116 q682 dn_X6_peek rfl ⟨by decide, by decide⟩ rfl (Nat.le_of_ble_eq_true rfl) dX6_next_10 (fun v7 h hd => ?_)
    show V K 2 h 13 [(0, .ref t)] [.int v7]
    refine v_bipush (v := 10) X dX6_next_13 (by decide) ?_
    refine v_icmp_ne (tgt := 31) X dX6_next_15 (by decide) (fun q => ?_) (fun q => ?_)
    · have hd := ite_f q hd
      exact v_loc [0] rfl (v_at (P := fun (e4 : Unit) h => V K 2 h 31 [(0, .ref t)] []) (lp_out hd ho3) KX)
    · have hd := ite_t q hd
      refine v_aload_n X dX6_next_18 0 0 rfl rfl ?_
      refine v_dup X dX6_next_19 rfl ?_
      refine v_getI X hd fl_X6_19 dX6_next_20 (fun v8 hd => ?_)
      refine v_iconst (v := 1) X dX6_next_23 (by decide) ?_
      refine v_iadd X dX6_next_24 ?_
      refine v_put (v := .int (v8 + 1)) X hd fp_X6_19 rfl rfl dX6_next_25 (fun h hd => ?_)
      refine v_goto (tgt := 0) X dX6_next_28 (by decide) ?_
      exact v_loc [0] rfl (lp_in (P := fun (s1 : Unit) h => V K 2 h 0 [(0, .ref t)] []) hd ih2)
def dkwX6_begin_0 : List UInt8 := [42, 3, 181, 0, 19, 42, 182, 0, 22, 177]
abbrev dktX6_begin_0 : List UInt8 := dkwX6_begin_0 ++ []
theorem dksX6_begin_0 : cX6_begin.data.toList.drop 0 = dktX6_begin_0 := by decide +kernel
theorem dX6_begin_0 : decode cX6_begin 0 = .ok (.aload_n 0, 1) := dk_42 (dk_at dksX6_begin_0 0 rfl rfl)
theorem dX6_begin_1 : decode cX6_begin 1 = .ok (.iconst 0, 1) := dk_3 (dk_at dksX6_begin_0 1 rfl rfl)
theorem dX6_begin_2 : decode cX6_begin 2 = .ok (.putfield 19, 3) := dk_181 0 19 (dk_at dksX6_begin_0 2 rfl rfl)
theorem dX6_begin_5 : decode cX6_begin 5 = .ok (.aload_n 0, 1) := dk_42 (dk_at dksX6_begin_0 5 rfl rfl)
theorem dX6_begin_6 : decode cX6_begin 6 = .ok (.invokevirtual 22, 3) := dk_182 0 22 (dk_at dksX6_begin_0 6 rfl rfl)
theorem dX6_begin_9 : decode cX6_begin 9 = .ok (.return_, 1) := dk_177 (dk_at dksX6_begin_0 9 rfl rfl)
theorem hu_X6_22 : ∀ ci ∈ [5, 6, 7], ∃ rr : vw_C, gCl[ci]? = some rr ∧ GoodIn lw_all (va_wsU "BitingDoors$Reader" 22 rr.1 "BitingDoors$Reader" ⟨"BitingDoors$Reader", "next", "()V"⟩ yX6_next (ws_ yX6_next cX6_next 2 none)) := by
  intro ci hc
  simp only [List.mem_cons, List.not_mem_nil, or_false] at hc
  rcases hc with rfl | rfl | rfl
  · refine ⟨_, gCl_X7, lw_app (fun w hw => ?_) (lw_meth q678)⟩
    simp only [List.mem_cons, List.not_mem_nil, or_false] at hw
    rcases hw with e | e | e | e | e
    · rw [e]; exact q672
    · rw [e]; exact q674
    · rw [e]; exact q676
    · rw [e]; exact q673
    · rw [e]; exact q116
  · refine ⟨_, gCl_X8, lw_app (fun w hw => ?_) (lw_meth q678)⟩
    simp only [List.mem_cons, List.not_mem_nil, or_false] at hw
    rcases hw with e | e | e | e | e
    · rw [e]; exact q672
    · rw [e]; exact q674
    · rw [e]; exact q675
    · rw [e]; exact q673
    · rw [e]; exact q116
  · refine ⟨_, gCl_X9, lw_app (fun w hw => ?_) (lw_meth q678)⟩
    simp only [List.mem_cons, List.not_mem_nil, or_false] at hw
    rcases hw with e | e | e | e | e
    · rw [e]; exact q672
    · rw [e]; exact q674
    · rw [e]; exact q677
    · rw [e]; exact q673
    · rw [e]; exact q116
theorem dn_X6_begin : yX6_begin.cls ≠ "java/lang/invoke/MethodHandle" ∧ yX6_begin.cls ≠ "java/lang/invoke/VarHandle" ∧ (parseMethodDescriptor yX6_begin.desc).map (fun d => d.parameters.length) = some 0 := by decide +kernel
noncomputable def M_X6_begin (t : Nat) : Mo Unit := Mo.bind (chk [5, 6, 7] t) (fun _ => Mo.bind (pF [5, 6, 7] t 1 (.int 0)) (fun _ => Mo.bind (Mo.bind (chk [5, 6, 7] t) (fun _ => M_X6_next t)) (fun v1 => Mo.pure ())))
set_option maxHeartbeats 4000000 in
theorem ct_X6_begin (G : gG) (t : Nat) : gCt G yX6_begin cX6_begin 1 none 4 86 [.ref t] (M_X6_begin t) (fun _ : Unit => none) := by
  refine gCt.of (by decide) (Nat.le_of_ble_eq_true rfl) (fun K r hG X hd ho => ?_)
  subst hG
  have X : gX K cX6_begin 1 "BitingDoors$Reader" "begin" none 4 86 := X
  have hle : gLe (kh1 K) (kh1 K) := gLe.rf
  show V K 1 (kh0 K) 0 [(0, .ref t)] []
  generalize kh0 K = h at hd ⊢
  unfold M_X6_begin at hd
  obtain ⟨-, hd⟩ := chk_some hd
  refine v_aload_n X dX6_begin_0 0 0 rfl rfl ?_
  refine v_iconst (v := 0) X dX6_begin_1 (by decide) ?_
  refine v_put (v := .int 0) X hd fp_X6_19 rfl rfl dX6_begin_2 (fun h hd => ?_)
  refine v_aload_n X dX6_begin_5 0 0 rfl rfl ?_
  refine v_callU X hd hle (ct_X6_next _ t) hu_X6_22 rfl (by decide +kernel) rfl ⟨by decide, by decide⟩ rfl (Nat.le_of_ble_eq_true rfl) dX6_begin_6 (fun v1 h hd => ?_)
  show V K 1 h 9 [(0, .ref t)] []
  exact v_vret X hd ho dX6_begin_9
def dkwX6_areCells_3 : List UInt8 := [167, 255, 186, 4, 172]
abbrev dktX6_areCells_3 : List UInt8 := dkwX6_areCells_3 ++ []
def dkwX6_areCells_2 : List UInt8 := [42, 180, 0, 3, 180, 0, 28, 42, 180, 0, 40, 27, 96, 51, 16, 116, 159, 0, 5, 3, 172, 132, 1, 1]
abbrev dktX6_areCells_2 : List UInt8 := dkwX6_areCells_2 ++ dktX6_areCells_3
def dkwX6_areCells_1 : List UInt8 := [16, 119, 159, 0, 43, 42, 180, 0, 3, 180, 0, 28, 42, 180, 0, 40, 27, 96, 51, 16, 102, 159, 0, 24]
abbrev dktX6_areCells_1 : List UInt8 := dkwX6_areCells_1 ++ dktX6_areCells_2
def dkwX6_areCells_0 : List UInt8 := [3, 60, 27, 42, 180, 0, 64, 162, 0, 68, 42, 180, 0, 3, 180, 0, 28, 42, 180, 0, 40, 27, 96, 51]
abbrev dktX6_areCells_0 : List UInt8 := dkwX6_areCells_0 ++ dktX6_areCells_1
theorem dksX6_areCells_0 : cX6_areCells.data.toList.drop 0 = dktX6_areCells_0 := by decide +kernel
theorem dksX6_areCells_1 : cX6_areCells.data.toList.drop 24 = dktX6_areCells_1 := dk_seg dksX6_areCells_0 24 rfl rfl
theorem dksX6_areCells_2 : cX6_areCells.data.toList.drop 48 = dktX6_areCells_2 := dk_seg dksX6_areCells_1 24 rfl rfl
theorem dksX6_areCells_3 : cX6_areCells.data.toList.drop 72 = dktX6_areCells_3 := dk_seg dksX6_areCells_2 24 rfl rfl
theorem dX6_areCells_0 : decode cX6_areCells 0 = .ok (.iconst 0, 1) := dk_3 (dk_at dksX6_areCells_0 0 rfl rfl)
theorem dX6_areCells_1 : decode cX6_areCells 1 = .ok (.istore_n 1, 1) := dk_60 (dk_at dksX6_areCells_0 1 rfl rfl)
theorem dX6_areCells_2 : decode cX6_areCells 2 = .ok (.iload_n 1, 1) := dk_27 (dk_at dksX6_areCells_0 2 rfl rfl)
theorem dX6_areCells_3 : decode cX6_areCells 3 = .ok (.aload_n 0, 1) := dk_42 (dk_at dksX6_areCells_0 3 rfl rfl)
theorem dX6_areCells_4 : decode cX6_areCells 4 = .ok (.getfield 64, 3) := dk_180 0 64 (dk_at dksX6_areCells_0 4 rfl rfl)
theorem dX6_areCells_7 : decode cX6_areCells 7 = .ok (.if_icmp .ge 68, 3) := dk_162 0 68 (dk_at dksX6_areCells_0 7 rfl rfl)
theorem dX6_areCells_10 : decode cX6_areCells 10 = .ok (.aload_n 0, 1) := dk_42 (dk_at dksX6_areCells_0 10 rfl rfl)
theorem dX6_areCells_11 : decode cX6_areCells 11 = .ok (.getfield 3, 3) := dk_180 0 3 (dk_at dksX6_areCells_0 11 rfl rfl)
theorem dX6_areCells_14 : decode cX6_areCells 14 = .ok (.getfield 28, 3) := dk_180 0 28 (dk_at dksX6_areCells_0 14 rfl rfl)
theorem dX6_areCells_17 : decode cX6_areCells 17 = .ok (.aload_n 0, 1) := dk_42 (dk_at dksX6_areCells_0 17 rfl rfl)
theorem dX6_areCells_18 : decode cX6_areCells 18 = .ok (.getfield 40, 3) := dk_180 0 40 (dk_at dksX6_areCells_0 18 rfl rfl)
theorem dX6_areCells_21 : decode cX6_areCells 21 = .ok (.iload_n 1, 1) := dk_27 (dk_at dksX6_areCells_0 21 rfl rfl)
theorem dX6_areCells_22 : decode cX6_areCells 22 = .ok (.iadd, 1) := dk_96 (dk_at dksX6_areCells_0 22 rfl rfl)
theorem dX6_areCells_23 : decode cX6_areCells 23 = .ok (.baload, 1) := dk_51 (dk_at dksX6_areCells_0 23 rfl rfl)
theorem dX6_areCells_24 : decode cX6_areCells 24 = .ok (.bipush 119, 2) := dk_16 119 (dk_at dksX6_areCells_1 0 rfl rfl)
theorem dX6_areCells_26 : decode cX6_areCells 26 = .ok (.if_icmp .eq 43, 3) := dk_159 0 43 (dk_at dksX6_areCells_1 2 rfl rfl)
theorem dX6_areCells_29 : decode cX6_areCells 29 = .ok (.aload_n 0, 1) := dk_42 (dk_at dksX6_areCells_1 5 rfl rfl)
theorem dX6_areCells_30 : decode cX6_areCells 30 = .ok (.getfield 3, 3) := dk_180 0 3 (dk_at dksX6_areCells_1 6 rfl rfl)
theorem dX6_areCells_33 : decode cX6_areCells 33 = .ok (.getfield 28, 3) := dk_180 0 28 (dk_at dksX6_areCells_1 9 rfl rfl)
theorem dX6_areCells_36 : decode cX6_areCells 36 = .ok (.aload_n 0, 1) := dk_42 (dk_at dksX6_areCells_1 12 rfl rfl)
theorem dX6_areCells_37 : decode cX6_areCells 37 = .ok (.getfield 40, 3) := dk_180 0 40 (dk_at dksX6_areCells_1 13 rfl rfl)
theorem dX6_areCells_40 : decode cX6_areCells 40 = .ok (.iload_n 1, 1) := dk_27 (dk_at dksX6_areCells_1 16 rfl rfl)
theorem dX6_areCells_41 : decode cX6_areCells 41 = .ok (.iadd, 1) := dk_96 (dk_at dksX6_areCells_1 17 rfl rfl)
theorem dX6_areCells_42 : decode cX6_areCells 42 = .ok (.baload, 1) := dk_51 (dk_at dksX6_areCells_1 18 rfl rfl)
theorem dX6_areCells_43 : decode cX6_areCells 43 = .ok (.bipush 102, 2) := dk_16 102 (dk_at dksX6_areCells_1 19 rfl rfl)
theorem dX6_areCells_45 : decode cX6_areCells 45 = .ok (.if_icmp .eq 24, 3) := dk_159 0 24 (dk_at dksX6_areCells_1 21 rfl rfl)
theorem dX6_areCells_48 : decode cX6_areCells 48 = .ok (.aload_n 0, 1) := dk_42 (dk_at dksX6_areCells_2 0 rfl rfl)
theorem dX6_areCells_49 : decode cX6_areCells 49 = .ok (.getfield 3, 3) := dk_180 0 3 (dk_at dksX6_areCells_2 1 rfl rfl)
theorem dX6_areCells_52 : decode cX6_areCells 52 = .ok (.getfield 28, 3) := dk_180 0 28 (dk_at dksX6_areCells_2 4 rfl rfl)
theorem dX6_areCells_55 : decode cX6_areCells 55 = .ok (.aload_n 0, 1) := dk_42 (dk_at dksX6_areCells_2 7 rfl rfl)
theorem dX6_areCells_56 : decode cX6_areCells 56 = .ok (.getfield 40, 3) := dk_180 0 40 (dk_at dksX6_areCells_2 8 rfl rfl)
theorem dX6_areCells_59 : decode cX6_areCells 59 = .ok (.iload_n 1, 1) := dk_27 (dk_at dksX6_areCells_2 11 rfl rfl)
theorem dX6_areCells_60 : decode cX6_areCells 60 = .ok (.iadd, 1) := dk_96 (dk_at dksX6_areCells_2 12 rfl rfl)
theorem dX6_areCells_61 : decode cX6_areCells 61 = .ok (.baload, 1) := dk_51 (dk_at dksX6_areCells_2 13 rfl rfl)
theorem dX6_areCells_62 : decode cX6_areCells 62 = .ok (.bipush 116, 2) := dk_16 116 (dk_at dksX6_areCells_2 14 rfl rfl)
theorem dX6_areCells_64 : decode cX6_areCells 64 = .ok (.if_icmp .eq 5, 3) := dk_159 0 5 (dk_at dksX6_areCells_2 16 rfl rfl)
theorem dX6_areCells_67 : decode cX6_areCells 67 = .ok (.iconst 0, 1) := dk_3 (dk_at dksX6_areCells_2 19 rfl rfl)
theorem dX6_areCells_68 : decode cX6_areCells 68 = .ok (.ireturn, 1) := dk_172 (dk_at dksX6_areCells_2 20 rfl rfl)
theorem dX6_areCells_69 : decode cX6_areCells 69 = .ok (.iinc 1 1, 3) := dk_132 1 1 (dk_at dksX6_areCells_2 21 rfl rfl)
theorem dX6_areCells_72 : decode cX6_areCells 72 = .ok (.goto (-70), 3) := dk_167 255 186 (dk_at dksX6_areCells_3 0 rfl rfl)
theorem dX6_areCells_75 : decode cX6_areCells 75 = .ok (.iconst 1, 1) := dk_4 (dk_at dksX6_areCells_3 3 rfl rfl)
theorem dX6_areCells_76 : decode cX6_areCells 76 = .ok (.ireturn, 1) := dk_172 (dk_at dksX6_areCells_3 4 rfl rfl)
theorem dn_X6_areCells : yX6_areCells.cls ≠ "java/lang/invoke/MethodHandle" ∧ yX6_areCells.cls ≠ "java/lang/invoke/VarHandle" ∧ (parseMethodDescriptor yX6_areCells.desc).map (fun d => d.parameters.length) = some 0 := by decide +kernel
noncomputable def M_X6_areCells (t : Nat) : Mo Bool := Mo.bind (chk [5, 6, 7] t) (fun _ => Mo.loop (S := Int32) (fun s1 => Mo.bind (gI [5, 6, 7] t 5) (fun v4 => if v4 ≤ s1 then Mo.pure (Sum.inr true) else Mo.bind (gR [5, 6, 7] t 7) (fun v5 => Mo.bind (gR [0] v5 0) (fun v6 => Mo.bind (gI [5, 6, 7] t 2) (fun v7 => Mo.bind (aldI 2 v6 (v7 + s1)) (fun v8 => if v8 = 119 then Mo.lv (s1 + 1) (fun v9 => Mo.pure (Sum.inl v9)) else Mo.bind (gR [5, 6, 7] t 7) (fun v10 => Mo.bind (gR [0] v10 0) (fun v11 => Mo.bind (gI [5, 6, 7] t 2) (fun v12 => Mo.bind (aldI 2 v11 (v12 + s1)) (fun v13 => if v13 = 102 then Mo.lv (s1 + 1) (fun v14 => Mo.pure (Sum.inl v14)) else Mo.bind (gR [5, 6, 7] t 7) (fun v15 => Mo.bind (gR [0] v15 0) (fun v16 => Mo.bind (gI [5, 6, 7] t 2) (fun v17 => Mo.bind (aldI 2 v16 (v17 + s1)) (fun v18 => if v18 = 116 then Mo.lv (s1 + 1) (fun v19 => Mo.pure (Sum.inl v19)) else Mo.pure (Sum.inr false))))))))))))))) 0)
set_option maxHeartbeats 4000000 in
theorem ct_X6_areCells (G : gG) (t : Nat) : gCt G yX6_areCells cX6_areCells 2 (some .boolean) 0 0 [.ref t] (M_X6_areCells t) (fun x : Bool => some (.int (b2i x))) := by
  refine gCt.of (by decide) (Nat.le_of_ble_eq_true rfl) (fun K r hG X hd ho => ?_)
  subst hG
  have X : gX K cX6_areCells 2 "BitingDoors$Reader" "areCells" (some .boolean) 0 0 := X
  have hle : gLe (kh1 K) (kh1 K) := gLe.rf
  show V K 2 (kh0 K) 0 [(0, .ref t)] []
  generalize kh0 K = h at hd ⊢
  unfold M_X6_areCells at hd
  obtain ⟨-, hd⟩ := chk_some hd
  refine v_iconst (v := 0) X dX6_areCells_0 (by decide) ?_
  refine v_istore_n (lv2 := [(1, .int 0), (0, .ref t)]) X dX6_areCells_1 1 rfl (by decide) rfl ?_
  refine v_loc [1, 0] rfl ?_
  refine loop_ind hd (fun (s1 : Int32) h => V K 2 h 2 [(0, .ref t), (1, .int s1)] []) (fun s1 h x h2 hd hle0 ih2 ho3 => ?_)
  have hle := hle0.tr hle
  refine v_iload_n X dX6_areCells_2 1 1 rfl rfl ?_
  refine v_aload_n X dX6_areCells_3 0 0 rfl rfl ?_
  refine v_getI X hd fl_X6_64 dX6_areCells_4 (fun v4 hd => ?_)
  refine v_icmp_ge (tgt := 75) X dX6_areCells_7 (by decide) (fun q => ?_) (fun q => ?_)
  · have hd := ite_t q hd
    refine v_iconst (v := 1) X dX6_areCells_75 (by decide) ?_
    have hd := lp_out hd ho3
    exact v_zret X hd rfl ho dX6_areCells_76
  · have hd := ite_f q hd
    refine v_aload_n X dX6_areCells_10 0 0 rfl rfl ?_
    refine v_getR X hd fl_X6_3 dX6_areCells_11 (fun v5 hd => ?_)
    refine v_getR X hd fl_X6_28 dX6_areCells_14 (fun v6 hd => ?_)
    refine v_aload_n X dX6_areCells_17 0 0 rfl rfl ?_
    refine v_getI X hd fl_X6_40 dX6_areCells_18 (fun v7 hd => ?_)
    refine v_iload_n X dX6_areCells_21 1 1 rfl rfl ?_
    refine v_iadd X dX6_areCells_22 ?_
    refine v_bald X hd dX6_areCells_23 (fun v8 hd => ?_)
    refine v_bipush (v := 119) X dX6_areCells_24 (by decide) ?_
    refine v_icmp_eq (tgt := 69) X dX6_areCells_26 (by decide) (fun q => ?_) (fun q => ?_)
    · have hd := ite_t q hd
      refine v_iincL (lv2 := fun v9 => [(1, .int v9), (0, .ref t)]) X hd dX6_areCells_69 1 rfl (by decide : Int32.ofInt 1 = 1) (by decide) (fun v9 => rfl) (fun v9 hd => ?_)
      refine v_goto (tgt := 2) X dX6_areCells_72 (by decide) ?_
      exact v_loc [1, 0] rfl (lp_in (P := fun (s1 : Int32) h => V K 2 h 2 [(0, .ref t), (1, .int s1)] []) hd ih2)
    · have hd := ite_f q hd
      refine v_aload_n X dX6_areCells_29 0 0 rfl rfl ?_
      refine v_getR X hd fl_X6_3 dX6_areCells_30 (fun v10 hd => ?_)
      refine v_getR X hd fl_X6_28 dX6_areCells_33 (fun v11 hd => ?_)
      refine v_aload_n X dX6_areCells_36 0 0 rfl rfl ?_
      refine v_getI X hd fl_X6_40 dX6_areCells_37 (fun v12 hd => ?_)
      refine v_iload_n X dX6_areCells_40 1 1 rfl rfl ?_
      refine v_iadd X dX6_areCells_41 ?_
      refine v_bald X hd dX6_areCells_42 (fun v13 hd => ?_)
      refine v_bipush (v := 102) X dX6_areCells_43 (by decide) ?_
      refine v_icmp_eq (tgt := 69) X dX6_areCells_45 (by decide) (fun q => ?_) (fun q => ?_)
      · have hd := ite_t q hd
        refine v_iincL (lv2 := fun v14 => [(1, .int v14), (0, .ref t)]) X hd dX6_areCells_69 1 rfl (by decide : Int32.ofInt 1 = 1) (by decide) (fun v14 => rfl) (fun v14 hd => ?_)
        refine v_goto (tgt := 2) X dX6_areCells_72 (by decide) ?_
        exact v_loc [1, 0] rfl (lp_in (P := fun (s1 : Int32) h => V K 2 h 2 [(0, .ref t), (1, .int s1)] []) hd ih2)
      · have hd := ite_f q hd
        refine v_aload_n X dX6_areCells_48 0 0 rfl rfl ?_
        refine v_getR X hd fl_X6_3 dX6_areCells_49 (fun v15 hd => ?_)
        refine v_getR X hd fl_X6_28 dX6_areCells_52 (fun v16 hd => ?_)
        refine v_aload_n X dX6_areCells_55 0 0 rfl rfl ?_
        refine v_getI X hd fl_X6_40 dX6_areCells_56 (fun v17 hd => ?_)
        refine v_iload_n X dX6_areCells_59 1 1 rfl rfl ?_
        refine v_iadd X dX6_areCells_60 ?_
        refine v_bald X hd dX6_areCells_61 (fun v18 hd => ?_)
        refine v_bipush (v := 116) X dX6_areCells_62 (by decide) ?_
        refine v_icmp_eq (tgt := 69) X dX6_areCells_64 (by decide) (fun q => ?_) (fun q => ?_)
        · have hd := ite_t q hd
          refine v_iincL (lv2 := fun v19 => [(1, .int v19), (0, .ref t)]) X hd dX6_areCells_69 1 rfl (by decide : Int32.ofInt 1 = 1) (by decide) (fun v19 => rfl) (fun v19 hd => ?_)
          refine v_goto (tgt := 2) X dX6_areCells_72 (by decide) ?_
          exact v_loc [1, 0] rfl (lp_in (P := fun (s1 : Int32) h => V K 2 h 2 [(0, .ref t), (1, .int s1)] []) hd ih2)
        · have hd := ite_f q hd
          refine v_iconst (v := 0) X dX6_areCells_67 (by decide) ?_
          have hd := lp_out hd ho3
          exact v_zret X hd rfl ho dX6_areCells_68
def dkwX6_wrong_1 : List UInt8 := [181, 0, 101, 42, 180, 0, 3, 180, 0, 92, 176]
abbrev dktX6_wrong_1 : List UInt8 := dkwX6_wrong_1 ++ []
def dkwX6_wrong_0 : List UInt8 := [42, 180, 0, 3, 180, 0, 92, 27, 181, 0, 96, 42, 180, 0, 3, 180, 0, 92, 42, 180, 0, 40]
abbrev dktX6_wrong_0 : List UInt8 := dkwX6_wrong_0 ++ dktX6_wrong_1
theorem dksX6_wrong_0 : cX6_wrong.data.toList.drop 0 = dktX6_wrong_0 := by decide +kernel
theorem dksX6_wrong_1 : cX6_wrong.data.toList.drop 22 = dktX6_wrong_1 := dk_seg dksX6_wrong_0 22 rfl rfl
theorem dX6_wrong_0 : decode cX6_wrong 0 = .ok (.aload_n 0, 1) := dk_42 (dk_at dksX6_wrong_0 0 rfl rfl)
theorem dX6_wrong_1 : decode cX6_wrong 1 = .ok (.getfield 3, 3) := dk_180 0 3 (dk_at dksX6_wrong_0 1 rfl rfl)
theorem dX6_wrong_4 : decode cX6_wrong 4 = .ok (.getfield 92, 3) := dk_180 0 92 (dk_at dksX6_wrong_0 4 rfl rfl)
theorem dX6_wrong_7 : decode cX6_wrong 7 = .ok (.iload_n 1, 1) := dk_27 (dk_at dksX6_wrong_0 7 rfl rfl)
theorem dX6_wrong_8 : decode cX6_wrong 8 = .ok (.putfield 96, 3) := dk_181 0 96 (dk_at dksX6_wrong_0 8 rfl rfl)
theorem dX6_wrong_11 : decode cX6_wrong 11 = .ok (.aload_n 0, 1) := dk_42 (dk_at dksX6_wrong_0 11 rfl rfl)
theorem dX6_wrong_12 : decode cX6_wrong 12 = .ok (.getfield 3, 3) := dk_180 0 3 (dk_at dksX6_wrong_0 12 rfl rfl)
theorem dX6_wrong_15 : decode cX6_wrong 15 = .ok (.getfield 92, 3) := dk_180 0 92 (dk_at dksX6_wrong_0 15 rfl rfl)
theorem dX6_wrong_18 : decode cX6_wrong 18 = .ok (.aload_n 0, 1) := dk_42 (dk_at dksX6_wrong_0 18 rfl rfl)
theorem dX6_wrong_19 : decode cX6_wrong 19 = .ok (.getfield 40, 3) := dk_180 0 40 (dk_at dksX6_wrong_0 19 rfl rfl)
theorem dX6_wrong_22 : decode cX6_wrong 22 = .ok (.putfield 101, 3) := dk_181 0 101 (dk_at dksX6_wrong_1 0 rfl rfl)
theorem dX6_wrong_25 : decode cX6_wrong 25 = .ok (.aload_n 0, 1) := dk_42 (dk_at dksX6_wrong_1 3 rfl rfl)
theorem dX6_wrong_26 : decode cX6_wrong 26 = .ok (.getfield 3, 3) := dk_180 0 3 (dk_at dksX6_wrong_1 4 rfl rfl)
theorem dX6_wrong_29 : decode cX6_wrong 29 = .ok (.getfield 92, 3) := dk_180 0 92 (dk_at dksX6_wrong_1 7 rfl rfl)
theorem dX6_wrong_32 : decode cX6_wrong 32 = .ok (.areturn, 1) := dk_176 (dk_at dksX6_wrong_1 10 rfl rfl)
theorem fl_X6_92 : gFl "BitingDoors$Reader" 92 [0] 4 := by
  intro args s hts hN ci hc
  simp only [List.mem_cons, List.not_mem_nil, or_false] at hc
  subst hc
  exact ⟨RX1, TX1, 46, "BitingDoors", gCl_X1, in_X1, by decide, Or.inr ⟨"BitingDoors", va_Nw.use rfl (hN.1 ("BitingDoors$Reader", 92, "BitingDoors", "broken", "LBitingDoors$Fault;", "BitingDoors") (List.mem_of_getElem? (i := 40) rfl))⟩, fun _ h => h⟩
theorem fp_X6_101 {nm : String} : gFp "BitingDoors$Reader" nm 101 [1] 7 .int := by
  intro args s hts hN ci hc
  simp only [List.mem_cons, List.not_mem_nil, or_false] at hc
  subst hc
  exact ⟨RX2, TX2, 8, "BitingDoors$Fault", gCl_X2, in_X2, by decide, Or.inl ⟨rfl, Or.inl (hts _ q204)⟩, fun _ h => h, rfl, fun D tys hK => gap_X2 hts hK⟩
theorem fp_X6_96 {nm : String} : gFp "BitingDoors$Reader" nm 96 [1] 6 .int := by
  intro args s hts hN ci hc
  simp only [List.mem_cons, List.not_mem_nil, or_false] at hc
  subst hc
  exact ⟨RX2, TX2, 8, "BitingDoors$Fault", gCl_X2, in_X2, by decide, Or.inl ⟨rfl, Or.inl (hts _ q202)⟩, fun _ h => h, rfl, fun D tys hK => gap_X2 hts hK⟩
theorem dn_X6_wrong : yX6_wrong.cls ≠ "java/lang/invoke/MethodHandle" ∧ yX6_wrong.cls ≠ "java/lang/invoke/VarHandle" ∧ (parseMethodDescriptor yX6_wrong.desc).map (fun d => d.parameters.length) = some 1 := by decide +kernel
noncomputable def M_X6_wrong (t : Nat) (p1 : Int32) : Mo Nat := Mo.bind (chk [5, 6, 7] t) (fun _ => Mo.bind (gR [5, 6, 7] t 7) (fun v1 => Mo.bind (gR [0] v1 4) (fun v2 => Mo.bind (pF [1] v2 6 (.int p1)) (fun _ => Mo.bind (gR [5, 6, 7] t 7) (fun v3 => Mo.bind (gR [0] v3 4) (fun v4 => Mo.bind (gI [5, 6, 7] t 2) (fun v5 => Mo.bind (pF [1] v4 7 (.int v5)) (fun _ => Mo.bind (gR [5, 6, 7] t 7) (fun v6 => Mo.bind (gR [0] v6 4) (fun v7 => Mo.pure v7))))))))))
set_option maxHeartbeats 4000000 in
theorem ct_X6_wrong (G : gG) (t : Nat) (p1 : Int32) : gCt G yX6_wrong cX6_wrong 2 (some (.object "BitingDoors$Fault")) 0 0 [.ref t, .int p1] (M_X6_wrong t p1) (fun x : Nat => some (.ref x)) := by
  refine gCt.of (by decide) (Nat.le_of_ble_eq_true rfl) (fun K r hG X hd ho => ?_)
  subst hG
  have X : gX K cX6_wrong 2 "BitingDoors$Reader" "wrong" (some (.object "BitingDoors$Fault")) 0 0 := X
  have hle : gLe (kh1 K) (kh1 K) := gLe.rf
  show V K 2 (kh0 K) 0 [(0, .ref t), (1, .int p1)] []
  generalize kh0 K = h at hd ⊢
  unfold M_X6_wrong at hd
  obtain ⟨-, hd⟩ := chk_some hd
  refine v_aload_n X dX6_wrong_0 0 0 rfl rfl ?_
  refine v_getR X hd fl_X6_3 dX6_wrong_1 (fun v1 hd => ?_)
  refine v_getR X hd fl_X6_92 dX6_wrong_4 (fun v2 hd => ?_)
  refine v_iload_n X dX6_wrong_7 1 1 rfl rfl ?_
  refine v_put (v := .int p1) X hd fp_X6_96 rfl rfl dX6_wrong_8 (fun h hd => ?_)
  refine v_aload_n X dX6_wrong_11 0 0 rfl rfl ?_
  refine v_getR X hd fl_X6_3 dX6_wrong_12 (fun v3 hd => ?_)
  refine v_getR X hd fl_X6_92 dX6_wrong_15 (fun v4 hd => ?_)
  refine v_aload_n X dX6_wrong_18 0 0 rfl rfl ?_
  refine v_getI X hd fl_X6_40 dX6_wrong_19 (fun v5 hd => ?_)
  refine v_put (v := .int v5) X hd fp_X6_101 rfl rfl dX6_wrong_22 (fun h hd => ?_)
  refine v_aload_n X dX6_wrong_25 0 0 rfl rfl ?_
  refine v_getR X hd fl_X6_3 dX6_wrong_26 (fun v6 hd => ?_)
  refine v_getR X hd fl_X6_92 dX6_wrong_29 (fun v7 hd => ?_)
  exact v_aret X rfl (Or.inl ⟨_, rfl⟩) hd ho dX6_wrong_32
def dkwX6_is_2_0 : List UInt8 := [42, 180, 0, 43, 6, 160, 0, 15, 42, 180, 0, 57, 27, 160, 0, 7, 4, 167, 0, 4, 3, 172]
abbrev dktX6_is_2_0 : List UInt8 := dkwX6_is_2_0 ++ []
theorem dksX6_is_2_0 : cX6_is_2.data.toList.drop 0 = dktX6_is_2_0 := by decide +kernel
theorem dX6_is_2_0 : decode cX6_is_2 0 = .ok (.aload_n 0, 1) := dk_42 (dk_at dksX6_is_2_0 0 rfl rfl)
theorem dX6_is_2_1 : decode cX6_is_2 1 = .ok (.getfield 43, 3) := dk_180 0 43 (dk_at dksX6_is_2_0 1 rfl rfl)
theorem dX6_is_2_4 : decode cX6_is_2 4 = .ok (.iconst 3, 1) := dk_6 (dk_at dksX6_is_2_0 4 rfl rfl)
theorem dX6_is_2_5 : decode cX6_is_2 5 = .ok (.if_icmp .ne 15, 3) := dk_160 0 15 (dk_at dksX6_is_2_0 5 rfl rfl)
theorem dX6_is_2_8 : decode cX6_is_2 8 = .ok (.aload_n 0, 1) := dk_42 (dk_at dksX6_is_2_0 8 rfl rfl)
theorem dX6_is_2_9 : decode cX6_is_2 9 = .ok (.getfield 57, 3) := dk_180 0 57 (dk_at dksX6_is_2_0 9 rfl rfl)
theorem dX6_is_2_12 : decode cX6_is_2 12 = .ok (.iload_n 1, 1) := dk_27 (dk_at dksX6_is_2_0 12 rfl rfl)
theorem dX6_is_2_13 : decode cX6_is_2 13 = .ok (.if_icmp .ne 7, 3) := dk_160 0 7 (dk_at dksX6_is_2_0 13 rfl rfl)
theorem dX6_is_2_16 : decode cX6_is_2 16 = .ok (.iconst 1, 1) := dk_4 (dk_at dksX6_is_2_0 16 rfl rfl)
theorem dX6_is_2_17 : decode cX6_is_2 17 = .ok (.goto 4, 3) := dk_167 0 4 (dk_at dksX6_is_2_0 17 rfl rfl)
theorem dX6_is_2_20 : decode cX6_is_2 20 = .ok (.iconst 0, 1) := dk_3 (dk_at dksX6_is_2_0 20 rfl rfl)
theorem dX6_is_2_21 : decode cX6_is_2 21 = .ok (.ireturn, 1) := dk_172 (dk_at dksX6_is_2_0 21 rfl rfl)
theorem fl_X6_43 : gFl "BitingDoors$Reader" 43 [5, 6, 7] 3 := by
  intro args s hts hN ci hc
  simp only [List.mem_cons, List.not_mem_nil, or_false] at hc
  rcases hc with rfl | rfl | rfl
  · exact ⟨RX7, TX7, 10, "BitingDoors$Reader", gCl_X7, in_X7, by decide, Or.inl (hts _ q398), fun _ h => h⟩
  · exact ⟨RX8, TX8, 9, "BitingDoors$Reader", gCl_X8, in_X8, by decide, Or.inl (hts _ q398), fun _ h => h⟩
  · exact ⟨RX9, TX9, 12, "BitingDoors$Reader", gCl_X9, in_X9, by decide, Or.inl (hts _ q398), fun _ h => h⟩
theorem dn_X6_is_2 : yX6_is_2.cls ≠ "java/lang/invoke/MethodHandle" ∧ yX6_is_2.cls ≠ "java/lang/invoke/VarHandle" ∧ (parseMethodDescriptor yX6_is_2.desc).map (fun d => d.parameters.length) = some 1 := by decide +kernel
noncomputable def M_X6_is_2 (t : Nat) (p1 : Int32) : Mo Bool := Mo.bind (chk [5, 6, 7] t) (fun _ => Mo.bind (gI [5, 6, 7] t 3) (fun v1 => Mo.bind ((if v1 = 3 then Mo.bind (gI [5, 6, 7] t 4) (fun v3 => if v3 = p1 then Mo.pure true else Mo.pure false) else Mo.pure false : Mo (Bool))) (fun u2 => Mo.pure u2)))
set_option maxHeartbeats 4000000 in
theorem ct_X6_is_2 (G : gG) (t : Nat) (p1 : Int32) : gCt G yX6_is_2 cX6_is_2 2 (some .boolean) 0 0 [.ref t, .int p1] (M_X6_is_2 t p1) (fun x : Bool => some (.int (b2i x))) := by
  refine gCt.of (by decide) (Nat.le_of_ble_eq_true rfl) (fun K r hG X hd ho => ?_)
  subst hG
  have X : gX K cX6_is_2 2 "BitingDoors$Reader" "is" (some .boolean) 0 0 := X
  have hle : gLe (kh1 K) (kh1 K) := gLe.rf
  show V K 2 (kh0 K) 0 [(0, .ref t), (1, .int p1)] []
  generalize kh0 K = h at hd ⊢
  unfold M_X6_is_2 at hd
  obtain ⟨-, hd⟩ := chk_some hd
  refine v_aload_n X dX6_is_2_0 0 0 rfl rfl ?_
  refine v_getI X hd fl_X6_43 dX6_is_2_1 (fun v1 hd => ?_)
  refine v_iconst (v := 3) X dX6_is_2_4 (by decide) ?_
  obtain ⟨u2, h1, hd, hd2⟩ := Mo.bind_some hd
  have KJ : V K 2 h1 21 [] [.int (b2i u2)] := by
    clear hd
    have hd := hd2
    exact v_zret X hd rfl ho dX6_is_2_21
  have hle := (Mo.le hd2).tr hle
  clear hd2
  refine v_icmp_ne (tgt := 20) X dX6_is_2_5 (by decide) (fun q => ?_) (fun q => ?_)
  · have hd := ite_f q hd
    refine v_iconst (v := 0) X dX6_is_2_20 (by decide) ?_
    exact v_loc [] rfl (v_at (P := fun (u2 : Bool) h => V K 2 h 21 [] [.int (b2i u2)]) hd KJ)
  · have hd := ite_t q hd
    refine v_aload_n X dX6_is_2_8 0 0 rfl rfl ?_
    refine v_getI X hd fl_X6_57 dX6_is_2_9 (fun v3 hd => ?_)
    refine v_iload_n X dX6_is_2_12 1 1 rfl rfl ?_
    refine v_icmp_ne (tgt := 20) X dX6_is_2_13 (by decide) (fun q => ?_) (fun q => ?_)
    · have hd := ite_f q hd
      refine v_iconst (v := 0) X dX6_is_2_20 (by decide) ?_
      exact v_loc [] rfl (v_at (P := fun (u2 : Bool) h => V K 2 h 21 [] [.int (b2i u2)]) hd KJ)
    · have hd := ite_t q hd
      refine v_iconst (v := 1) X dX6_is_2_16 (by decide) ?_
      refine v_goto (tgt := 21) X dX6_is_2_17 (by decide) ?_
      exact v_loc [] rfl (v_at (P := fun (u2 : Bool) h => V K 2 h 21 [] [.int (b2i u2)]) hd KJ)
def dkwX6_of_1 : List UInt8 := [154, 0, 5, 28, 172, 132, 2, 1, 167, 255, 226, 2, 172]
abbrev dktX6_of_1 : List UInt8 := dkwX6_of_1 ++ []
def dkwX6_of_0 : List UInt8 := [3, 61, 28, 43, 180, 0, 114, 162, 0, 28, 43, 180, 0, 117, 28, 50, 180, 0, 121, 42, 180, 0, 60, 148]
abbrev dktX6_of_0 : List UInt8 := dkwX6_of_0 ++ dktX6_of_1
theorem dksX6_of_0 : cX6_of.data.toList.drop 0 = dktX6_of_0 := by decide +kernel
theorem dksX6_of_1 : cX6_of.data.toList.drop 24 = dktX6_of_1 := dk_seg dksX6_of_0 24 rfl rfl
theorem dX6_of_0 : decode cX6_of 0 = .ok (.iconst 0, 1) := dk_3 (dk_at dksX6_of_0 0 rfl rfl)
theorem dX6_of_1 : decode cX6_of 1 = .ok (.istore_n 2, 1) := dk_61 (dk_at dksX6_of_0 1 rfl rfl)
theorem dX6_of_2 : decode cX6_of 2 = .ok (.iload_n 2, 1) := dk_28 (dk_at dksX6_of_0 2 rfl rfl)
theorem dX6_of_3 : decode cX6_of 3 = .ok (.aload_n 1, 1) := dk_43 (dk_at dksX6_of_0 3 rfl rfl)
theorem dX6_of_4 : decode cX6_of 4 = .ok (.getfield 114, 3) := dk_180 0 114 (dk_at dksX6_of_0 4 rfl rfl)
theorem dX6_of_7 : decode cX6_of 7 = .ok (.if_icmp .ge 28, 3) := dk_162 0 28 (dk_at dksX6_of_0 7 rfl rfl)
theorem dX6_of_10 : decode cX6_of 10 = .ok (.aload_n 1, 1) := dk_43 (dk_at dksX6_of_0 10 rfl rfl)
theorem dX6_of_11 : decode cX6_of 11 = .ok (.getfield 117, 3) := dk_180 0 117 (dk_at dksX6_of_0 11 rfl rfl)
theorem dX6_of_14 : decode cX6_of 14 = .ok (.iload_n 2, 1) := dk_28 (dk_at dksX6_of_0 14 rfl rfl)
theorem dX6_of_15 : decode cX6_of 15 = .ok (.aaload, 1) := dk_50 (dk_at dksX6_of_0 15 rfl rfl)
theorem dX6_of_16 : decode cX6_of 16 = .ok (.getfield 121, 3) := dk_180 0 121 (dk_at dksX6_of_0 16 rfl rfl)
theorem dX6_of_19 : decode cX6_of 19 = .ok (.aload_n 0, 1) := dk_42 (dk_at dksX6_of_0 19 rfl rfl)
theorem dX6_of_20 : decode cX6_of 20 = .ok (.getfield 60, 3) := dk_180 0 60 (dk_at dksX6_of_0 20 rfl rfl)
theorem dX6_of_23 : decode cX6_of 23 = .ok (.lcmp, 1) := dk_148 (dk_at dksX6_of_0 23 rfl rfl)
theorem dX6_of_24 : decode cX6_of 24 = .ok (.ifCond .ne 5, 3) := dk_154 0 5 (dk_at dksX6_of_1 0 rfl rfl)
theorem dX6_of_27 : decode cX6_of 27 = .ok (.iload_n 2, 1) := dk_28 (dk_at dksX6_of_1 3 rfl rfl)
theorem dX6_of_28 : decode cX6_of 28 = .ok (.ireturn, 1) := dk_172 (dk_at dksX6_of_1 4 rfl rfl)
theorem dX6_of_29 : decode cX6_of 29 = .ok (.iinc 2 1, 3) := dk_132 2 1 (dk_at dksX6_of_1 5 rfl rfl)
theorem dX6_of_32 : decode cX6_of 32 = .ok (.goto (-30), 3) := dk_167 255 226 (dk_at dksX6_of_1 8 rfl rfl)
theorem dX6_of_35 : decode cX6_of 35 = .ok (.iconst (-1), 1) := dk_2 (dk_at dksX6_of_1 11 rfl rfl)
theorem dX6_of_36 : decode cX6_of 36 = .ok (.ireturn, 1) := dk_172 (dk_at dksX6_of_1 12 rfl rfl)
theorem fl_X6_114 : gFl "BitingDoors$Reader" 114 [3] 6 := by
  intro args s hts hN ci hc
  simp only [List.mem_cons, List.not_mem_nil, or_false] at hc
  subst hc
  exact ⟨RX4, TX4, 9, "BitingDoors$House", gCl_X4, in_X4, by decide, Or.inr ⟨"BitingDoors", va_Nw.use rfl (hN.1 ("BitingDoors$Reader", 114, "BitingDoors$House", "many", "I", "BitingDoors") (List.mem_of_getElem? (i := 37) rfl))⟩, fun _ h => h⟩
theorem fl_X6_117 : gFl "BitingDoors$Reader" 117 [3] 2 := by
  intro args s hts hN ci hc
  simp only [List.mem_cons, List.not_mem_nil, or_false] at hc
  subst hc
  exact ⟨RX4, TX4, 9, "BitingDoors$House", gCl_X4, in_X4, by decide, Or.inr ⟨"BitingDoors", va_Nw.use rfl (hN.1 ("BitingDoors$Reader", 117, "BitingDoors$House", "doors", "[LBitingDoors$Door;", "BitingDoors") (List.mem_of_getElem? (i := 36) rfl))⟩, fun _ h => h⟩
theorem fl_X6_121 : gFl "BitingDoors$Reader" 121 [9] 0 := by
  intro args s hts hN ci hc
  simp only [List.mem_cons, List.not_mem_nil, or_false] at hc
  subst hc
  exact ⟨RX11, TX11, 12, "BitingDoors$Door", gCl_X11, in_X11, by decide, Or.inr ⟨"BitingDoors", va_Nw.use rfl (hN.1 ("BitingDoors$Reader", 121, "BitingDoors$Door", "name", "J", "BitingDoors") (List.mem_of_getElem? (i := 42) rfl))⟩, fun _ h => h⟩
theorem dn_X6_of : yX6_of.cls ≠ "java/lang/invoke/MethodHandle" ∧ yX6_of.cls ≠ "java/lang/invoke/VarHandle" ∧ (parseMethodDescriptor yX6_of.desc).map (fun d => d.parameters.length) = some 1 := by decide +kernel
noncomputable def M_X6_of (t : Nat) (p1 : Nat) : Mo Int32 := Mo.bind (chk [5, 6, 7] t) (fun _ => Mo.loop (S := Int32) (fun s1 => Mo.bind (gI [3] p1 6) (fun v4 => if v4 ≤ s1 then Mo.pure (Sum.inr (-1)) else Mo.bind (gR [3] p1 2) (fun v5 => Mo.bind (aldR 5 v5 s1) (fun v6 => Mo.bind (gL [9] v6 0) (fun v7 => Mo.bind (gL [5, 6, 7] t 6) (fun v8 => if (lg_cmp v7 v8) = 0 then Mo.pure (Sum.inr s1) else Mo.lv (s1 + 1) (fun v9 => Mo.pure (Sum.inl v9)))))))) 0)
set_option maxHeartbeats 4000000 in
theorem ct_X6_of (G : gG) (t : Nat) (p1 : Nat) : gCt G yX6_of cX6_of 3 (some .int) 0 0 [.ref t, .ref p1] (M_X6_of t p1) (fun x : Int32 => some (.int x)) := by
  refine gCt.of (by decide) (Nat.le_of_ble_eq_true rfl) (fun K r hG X hd ho => ?_)
  subst hG
  have X : gX K cX6_of 3 "BitingDoors$Reader" "of" (some .int) 0 0 := X
  have hle : gLe (kh1 K) (kh1 K) := gLe.rf
  show V K 3 (kh0 K) 0 [(0, .ref t), (1, .ref p1)] []
  generalize kh0 K = h at hd ⊢
  unfold M_X6_of at hd
  obtain ⟨-, hd⟩ := chk_some hd
  refine v_iconst (v := 0) X dX6_of_0 (by decide) ?_
  refine v_istore_n (lv2 := [(2, .int 0), (0, .ref t), (1, .ref p1)]) X dX6_of_1 2 rfl (by decide) rfl ?_
  refine v_loc [1, 2, 0] rfl ?_
  refine loop_ind hd (fun (s1 : Int32) h => V K 3 h 2 [(0, .ref t), (1, .ref p1), (2, .int s1)] []) (fun s1 h x h2 hd hle0 ih2 ho3 => ?_)
  have hle := hle0.tr hle
  refine v_iload_n X dX6_of_2 2 2 rfl rfl ?_
  refine v_aload_n X dX6_of_3 1 1 rfl rfl ?_
  refine v_getI X hd fl_X6_114 dX6_of_4 (fun v4 hd => ?_)
  refine v_icmp_ge (tgt := 35) X dX6_of_7 (by decide) (fun q => ?_) (fun q => ?_)
  · have hd := ite_t q hd
    refine v_iconst (v := (-1)) X dX6_of_35 (by decide) ?_
    have hd := lp_out hd ho3
    exact v_iret X hd ho dX6_of_36
  · have hd := ite_f q hd
    refine v_aload_n X dX6_of_10 1 1 rfl rfl ?_
    refine v_getR X hd fl_X6_117 dX6_of_11 (fun v5 hd => ?_)
    refine v_iload_n X dX6_of_14 2 2 rfl rfl ?_
    refine v_aldR X hd 5 rfl (by decide) (by decide) dX6_of_15 (fun v6 hd => ?_)
    refine v_getL X hd fl_X6_121 dX6_of_16 (fun v7 hd => ?_)
    refine v_aload_n X dX6_of_19 0 0 rfl rfl ?_
    refine v_getL X hd fl_X6_60 dX6_of_20 (fun v8 hd => ?_)
    refine v_lcmp X dX6_of_23 ?_
    refine v_if_ne (tgt := 29) X dX6_of_24 (by decide) (fun q => ?_) (fun q => ?_)
    · have hd := ite_f q hd
      refine v_iincL (lv2 := fun v9 => [(2, .int v9), (0, .ref t), (1, .ref p1)]) X hd dX6_of_29 2 rfl (by decide : Int32.ofInt 1 = 1) (by decide) (fun v9 => rfl) (fun v9 hd => ?_)
      refine v_goto (tgt := 2) X dX6_of_32 (by decide) ?_
      exact v_loc [1, 2, 0] rfl (lp_in (P := fun (s1 : Int32) h => V K 3 h 2 [(0, .ref t), (1, .ref p1), (2, .int s1)] []) hd ih2)
    · have hd := ite_t q hd
      refine v_iload_n X dX6_of_27 2 2 rfl rfl ?_
      have hd := lp_out hd ho3
      exact v_iret X hd ho dX6_of_28
