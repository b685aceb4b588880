set_option maxRecDepth 100000
def dkwX1_isIn_0 : List UInt8 := [26, 27, 161, 0, 12, 26, 28, 163, 0, 7, 4, 167, 0, 4, 3, 172]
abbrev dktX1_isIn_0 : List UInt8 := dkwX1_isIn_0 ++ []
theorem dksX1_isIn_0 : cX1_isIn.data.toList.drop 0 = dktX1_isIn_0 := by decide +kernel
theorem dX1_isIn_0 : decode cX1_isIn 0 = .ok (.iload_n 0, 1) := dk_26 (dk_at dksX1_isIn_0 0 rfl rfl)
theorem dX1_isIn_1 : decode cX1_isIn 1 = .ok (.iload_n 1, 1) := dk_27 (dk_at dksX1_isIn_0 1 rfl rfl)
theorem dX1_isIn_2 : decode cX1_isIn 2 = .ok (.if_icmp .lt 12, 3) := dk_161 0 12 (dk_at dksX1_isIn_0 2 rfl rfl)
theorem dX1_isIn_5 : decode cX1_isIn 5 = .ok (.iload_n 0, 1) := dk_26 (dk_at dksX1_isIn_0 5 rfl rfl)
theorem dX1_isIn_6 : decode cX1_isIn 6 = .ok (.iload_n 2, 1) := dk_28 (dk_at dksX1_isIn_0 6 rfl rfl)
theorem dX1_isIn_7 : decode cX1_isIn 7 = .ok (.if_icmp .gt 7, 3) := dk_163 0 7 (dk_at dksX1_isIn_0 7 rfl rfl)
theorem dX1_isIn_10 : decode cX1_isIn 10 = .ok (.iconst 1, 1) := dk_4 (dk_at dksX1_isIn_0 10 rfl rfl)
theorem dX1_isIn_11 : decode cX1_isIn 11 = .ok (.goto 4, 3) := dk_167 0 4 (dk_at dksX1_isIn_0 11 rfl rfl)
theorem dX1_isIn_14 : decode cX1_isIn 14 = .ok (.iconst 0, 1) := dk_3 (dk_at dksX1_isIn_0 14 rfl rfl)
theorem dX1_isIn_15 : decode cX1_isIn 15 = .ok (.ireturn, 1) := dk_172 (dk_at dksX1_isIn_0 15 rfl rfl)
theorem dn_X1_isIn : yX1_isIn.cls ≠ "java/lang/invoke/MethodHandle" ∧ yX1_isIn.cls ≠ "java/lang/invoke/VarHandle" ∧ (parseMethodDescriptor yX1_isIn.desc).map (fun d => d.parameters.length) = some 3 := by decide +kernel
noncomputable def M_X1_isIn (p1 : Int32) (p2 : Int32) (p3 : Int32) : Mo Bool := Mo.bind ((if p1 < p2 then Mo.pure false else if p3 < p1 then Mo.pure false else Mo.pure true : Mo (Bool))) (fun u1 => Mo.pure u1)
set_option maxHeartbeats 4000000 in
theorem ct_X1_isIn (G : gG) (p1 : Int32) (p2 : Int32) (p3 : Int32) : gCt G yX1_isIn cX1_isIn 3 (some .boolean) 0 0 [.int p1, .int p2, .int p3] (M_X1_isIn p1 p2 p3) (fun x : Bool => some (.int (b2i x))) := by
  refine gCt.of (by decide) (Nat.le_of_ble_eq_true rfl) (fun K r hG X hd ho => ?_)
  subst hG
  have X : gX K cX1_isIn 3 "BitingDoors" "isIn" (some .boolean) 0 0 := X
  have hle : gLe (kh1 K) (kh1 K) := gLe.rf
  show V K 3 (kh0 K) 0 [(0, .int p1), (1, .int p2), (2, .int p3)] []
  generalize kh0 K = h at hd ⊢
  unfold M_X1_isIn at hd
  refine v_iload_n X dX1_isIn_0 0 0 rfl rfl ?_
  refine v_iload_n X dX1_isIn_1 1 1 rfl rfl ?_
  obtain ⟨u1, h1, hd, hd2⟩ := Mo.bind_some hd
  have KJ : V K 3 h1 15 [] [.int (b2i u1)] := by
    clear hd
    have hd := hd2
    exact v_zret X hd rfl ho dX1_isIn_15
  have hle := (Mo.le hd2).tr hle
  clear hd2
  refine v_icmp_lt (tgt := 14) X dX1_isIn_2 (by decide) (fun q => ?_) (fun q => ?_)
  · have hd := ite_t q hd
    refine v_iconst (v := 0) X dX1_isIn_14 (by decide) ?_
    exact v_loc [] rfl (v_at (P := fun (u1 : Bool) h => V K 3 h 15 [] [.int (b2i u1)]) hd KJ)
  · have hd := ite_f q hd
    refine v_iload_n X dX1_isIn_5 0 0 rfl rfl ?_
    refine v_iload_n X dX1_isIn_6 2 2 rfl rfl ?_
    refine v_icmp_gt (tgt := 14) X dX1_isIn_7 (by decide) (fun q => ?_) (fun q => ?_)
    · have hd := ite_t q hd
      refine v_iconst (v := 0) X dX1_isIn_14 (by decide) ?_
      exact v_loc [] rfl (v_at (P := fun (u1 : Bool) h => V K 3 h 15 [] [.int (b2i u1)]) hd KJ)
    · have hd := ite_f q hd
      refine v_iconst (v := 1) X dX1_isIn_10 (by decide) ?_
      refine v_goto (tgt := 15) X dX1_isIn_11 (by decide) ?_
      exact v_loc [] rfl (v_at (P := fun (u1 : Bool) h => V K 3 h 15 [] [.int (b2i u1)]) hd KJ)
def dkwX1_has_0 : List UInt8 := [26, 27, 122, 4, 126, 4, 160, 0, 7, 4, 167, 0, 4, 3, 172]
abbrev dktX1_has_0 : List UInt8 := dkwX1_has_0 ++ []
theorem dksX1_has_0 : cX1_has.data.toList.drop 0 = dktX1_has_0 := by decide +kernel
theorem dX1_has_0 : decode cX1_has 0 = .ok (.iload_n 0, 1) := dk_26 (dk_at dksX1_has_0 0 rfl rfl)
theorem dX1_has_1 : decode cX1_has 1 = .ok (.iload_n 1, 1) := dk_27 (dk_at dksX1_has_0 1 rfl rfl)
theorem dX1_has_2 : decode cX1_has 2 = .ok (.ishr, 1) := dk_122 (dk_at dksX1_has_0 2 rfl rfl)
theorem dX1_has_3 : decode cX1_has 3 = .ok (.iconst 1, 1) := dk_4 (dk_at dksX1_has_0 3 rfl rfl)
theorem dX1_has_4 : decode cX1_has 4 = .ok (.iand, 1) := dk_126 (dk_at dksX1_has_0 4 rfl rfl)
theorem dX1_has_5 : decode cX1_has 5 = .ok (.iconst 1, 1) := dk_4 (dk_at dksX1_has_0 5 rfl rfl)
theorem dX1_has_6 : decode cX1_has 6 = .ok (.if_icmp .ne 7, 3) := dk_160 0 7 (dk_at dksX1_has_0 6 rfl rfl)
theorem dX1_has_9 : decode cX1_has 9 = .ok (.iconst 1, 1) := dk_4 (dk_at dksX1_has_0 9 rfl rfl)
theorem dX1_has_10 : decode cX1_has 10 = .ok (.goto 4, 3) := dk_167 0 4 (dk_at dksX1_has_0 10 rfl rfl)
theorem dX1_has_13 : decode cX1_has 13 = .ok (.iconst 0, 1) := dk_3 (dk_at dksX1_has_0 13 rfl rfl)
theorem dX1_has_14 : decode cX1_has 14 = .ok (.ireturn, 1) := dk_172 (dk_at dksX1_has_0 14 rfl rfl)
theorem dn_X1_has : yX1_has.cls ≠ "java/lang/invoke/MethodHandle" ∧ yX1_has.cls ≠ "java/lang/invoke/VarHandle" ∧ (parseMethodDescriptor yX1_has.desc).map (fun d => d.parameters.length) = some 2 := by decide +kernel
noncomputable def M_X1_has (p1 : Int32) (p2 : Int32) : Mo Bool := Mo.bind ((if ((p1 >>> (p2 &&& 31)) &&& 1) = 1 then Mo.pure true else Mo.pure false : Mo (Bool))) (fun u1 => Mo.pure u1)
set_option maxHeartbeats 4000000 in
theorem ct_X1_has (G : gG) (p1 : Int32) (p2 : Int32) : gCt G yX1_has cX1_has 2 (some .boolean) 0 0 [.int p1, .int p2] (M_X1_has p1 p2) (fun x : Bool => some (.int (b2i x))) := by
  refine gCt.of (by decide) (Nat.le_of_ble_eq_true rfl) (fun K r hG X hd ho => ?_)
  subst hG
  have X : gX K cX1_has 2 "BitingDoors" "has" (some .boolean) 0 0 := X
  have hle : gLe (kh1 K) (kh1 K) := gLe.rf
  show V K 2 (kh0 K) 0 [(0, .int p1), (1, .int p2)] []
  generalize kh0 K = h at hd ⊢
  unfold M_X1_has at hd
  refine v_iload_n X dX1_has_0 0 0 rfl rfl ?_
  refine v_iload_n X dX1_has_1 1 1 rfl rfl ?_
  refine v_ishr X dX1_has_2 ?_
  refine v_iconst (v := 1) X dX1_has_3 (by decide) ?_
  refine v_iand X dX1_has_4 ?_
  refine v_iconst (v := 1) X dX1_has_5 (by decide) ?_
  obtain ⟨u1, h1, hd, hd2⟩ := Mo.bind_some hd
  have KJ : V K 2 h1 14 [] [.int (b2i u1)] := by
    clear hd
    have hd := hd2
    exact v_zret X hd rfl ho dX1_has_14
  have hle := (Mo.le hd2).tr hle
  clear hd2
  refine v_icmp_ne (tgt := 13) X dX1_has_6 (by decide) (fun q => ?_) (fun q => ?_)
  · have hd := ite_f q hd
    refine v_iconst (v := 0) X dX1_has_13 (by decide) ?_
    exact v_loc [] rfl (v_at (P := fun (u1 : Bool) h => V K 2 h 14 [] [.int (b2i u1)]) hd KJ)
  · have hd := ite_t q hd
    refine v_iconst (v := 1) X dX1_has_9 (by decide) ?_
    refine v_goto (tgt := 14) X dX1_has_10 (by decide) ?_
    exact v_loc [] rfl (v_at (P := fun (u1 : Bool) h => V K 2 h 14 [] [.int (b2i u1)]) hd KJ)
def dkwX1_one_0 : List UInt8 := [4, 26, 120, 172]
abbrev dktX1_one_0 : List UInt8 := dkwX1_one_0 ++ []
theorem dksX1_one_0 : cX1_one.data.toList.drop 0 = dktX1_one_0 := by decide +kernel
theorem dX1_one_0 : decode cX1_one 0 = .ok (.iconst 1, 1) := dk_4 (dk_at dksX1_one_0 0 rfl rfl)
theorem dX1_one_1 : decode cX1_one 1 = .ok (.iload_n 0, 1) := dk_26 (dk_at dksX1_one_0 1 rfl rfl)
theorem dX1_one_2 : decode cX1_one 2 = .ok (.ishl, 1) := dk_120 (dk_at dksX1_one_0 2 rfl rfl)
theorem dX1_one_3 : decode cX1_one 3 = .ok (.ireturn, 1) := dk_172 (dk_at dksX1_one_0 3 rfl rfl)
theorem dn_X1_one : yX1_one.cls ≠ "java/lang/invoke/MethodHandle" ∧ yX1_one.cls ≠ "java/lang/invoke/VarHandle" ∧ (parseMethodDescriptor yX1_one.desc).map (fun d => d.parameters.length) = some 1 := by decide +kernel
noncomputable def M_X1_one (p1 : Int32) : Mo Int32 := Mo.pure (1 <<< (p1 &&& 31))
set_option maxHeartbeats 4000000 in
theorem ct_X1_one (G : gG) (p1 : Int32) : gCt G yX1_one cX1_one 1 (some .int) 0 0 [.int p1] (M_X1_one p1) (fun x : Int32 => some (.int x)) := by
  refine gCt.of (by decide) (Nat.le_of_ble_eq_true rfl) (fun K r hG X hd ho => ?_)
  subst hG
  have X : gX K cX1_one 1 "BitingDoors" "one" (some .int) 0 0 := X
  have hle : gLe (kh1 K) (kh1 K) := gLe.rf
  show V K 1 (kh0 K) 0 [(0, .int p1)] []
  generalize kh0 K = h at hd ⊢
  unfold M_X1_one at hd
  refine v_iconst (v := 1) X dX1_one_0 (by decide) ?_
  refine v_iload_n X dX1_one_1 0 0 rfl rfl ?_
  refine v_ishl X dX1_one_2 ?_
  exact v_iret X hd ho dX1_one_3
def dkwJ7_bitCount_2 : List UInt8 := [30, 30, 16, 32, 125, 97, 63, 30, 136, 16, 127, 126, 172]
abbrev dktJ7_bitCount_2 : List UInt8 := dkwJ7_bitCount_2 ++ []
def dkwJ7_bitCount_1 : List UInt8 := [30, 30, 7, 125, 97, 20, 1, 62, 127, 63, 30, 30, 16, 8, 125, 97, 63, 30, 30, 16, 16, 125, 97, 63]
abbrev dktJ7_bitCount_1 : List UInt8 := dkwJ7_bitCount_1 ++ dktJ7_bitCount_2
def dkwJ7_bitCount_0 : List UInt8 := [30, 30, 4, 125, 20, 1, 58, 127, 101, 63, 30, 20, 1, 60, 127, 30, 5, 125, 20, 1, 60, 127, 97, 63]
abbrev dktJ7_bitCount_0 : List UInt8 := dkwJ7_bitCount_0 ++ dktJ7_bitCount_1
theorem dksJ7_bitCount_0 : cJ7_bitCount.data.toList.drop 0 = dktJ7_bitCount_0 := by decide +kernel
theorem dksJ7_bitCount_1 : cJ7_bitCount.data.toList.drop 24 = dktJ7_bitCount_1 := dk_seg dksJ7_bitCount_0 24 rfl rfl
theorem dksJ7_bitCount_2 : cJ7_bitCount.data.toList.drop 48 = dktJ7_bitCount_2 := dk_seg dksJ7_bitCount_1 24 rfl rfl
theorem dJ7_bitCount_0 : decode cJ7_bitCount 0 = .ok (.lload_n 0, 1) := dk_30 (dk_at dksJ7_bitCount_0 0 rfl rfl)
theorem dJ7_bitCount_1 : decode cJ7_bitCount 1 = .ok (.lload_n 0, 1) := dk_30 (dk_at dksJ7_bitCount_0 1 rfl rfl)
theorem dJ7_bitCount_2 : decode cJ7_bitCount 2 = .ok (.iconst 1, 1) := dk_4 (dk_at dksJ7_bitCount_0 2 rfl rfl)
theorem dJ7_bitCount_3 : decode cJ7_bitCount 3 = .ok (.lushr, 1) := dk_125 (dk_at dksJ7_bitCount_0 3 rfl rfl)
theorem dJ7_bitCount_4 : decode cJ7_bitCount 4 = .ok (.ldc2_w 314, 3) := dk_20 1 58 (dk_at dksJ7_bitCount_0 4 rfl rfl)
theorem dJ7_bitCount_7 : decode cJ7_bitCount 7 = .ok (.land, 1) := dk_127 (dk_at dksJ7_bitCount_0 7 rfl rfl)
theorem dJ7_bitCount_8 : decode cJ7_bitCount 8 = .ok (.lsub, 1) := dk_101 (dk_at dksJ7_bitCount_0 8 rfl rfl)
theorem dJ7_bitCount_9 : decode cJ7_bitCount 9 = .ok (.lstore_n 0, 1) := dk_63 (dk_at dksJ7_bitCount_0 9 rfl rfl)
theorem dJ7_bitCount_10 : decode cJ7_bitCount 10 = .ok (.lload_n 0, 1) := dk_30 (dk_at dksJ7_bitCount_0 10 rfl rfl)
theorem dJ7_bitCount_11 : decode cJ7_bitCount 11 = .ok (.ldc2_w 316, 3) := dk_20 1 60 (dk_at dksJ7_bitCount_0 11 rfl rfl)
theorem dJ7_bitCount_14 : decode cJ7_bitCount 14 = .ok (.land, 1) := dk_127 (dk_at dksJ7_bitCount_0 14 rfl rfl)
theorem dJ7_bitCount_15 : decode cJ7_bitCount 15 = .ok (.lload_n 0, 1) := dk_30 (dk_at dksJ7_bitCount_0 15 rfl rfl)
theorem dJ7_bitCount_16 : decode cJ7_bitCount 16 = .ok (.iconst 2, 1) := dk_5 (dk_at dksJ7_bitCount_0 16 rfl rfl)
theorem dJ7_bitCount_17 : decode cJ7_bitCount 17 = .ok (.lushr, 1) := dk_125 (dk_at dksJ7_bitCount_0 17 rfl rfl)
theorem dJ7_bitCount_18 : decode cJ7_bitCount 18 = .ok (.ldc2_w 316, 3) := dk_20 1 60 (dk_at dksJ7_bitCount_0 18 rfl rfl)
theorem dJ7_bitCount_21 : decode cJ7_bitCount 21 = .ok (.land, 1) := dk_127 (dk_at dksJ7_bitCount_0 21 rfl rfl)
theorem dJ7_bitCount_22 : decode cJ7_bitCount 22 = .ok (.ladd, 1) := dk_97 (dk_at dksJ7_bitCount_0 22 rfl rfl)
theorem dJ7_bitCount_23 : decode cJ7_bitCount 23 = .ok (.lstore_n 0, 1) := dk_63 (dk_at dksJ7_bitCount_0 23 rfl rfl)
theorem dJ7_bitCount_24 : decode cJ7_bitCount 24 = .ok (.lload_n 0, 1) := dk_30 (dk_at dksJ7_bitCount_1 0 rfl rfl)
theorem dJ7_bitCount_25 : decode cJ7_bitCount 25 = .ok (.lload_n 0, 1) := dk_30 (dk_at dksJ7_bitCount_1 1 rfl rfl)
theorem dJ7_bitCount_26 : decode cJ7_bitCount 26 = .ok (.iconst 4, 1) := dk_7 (dk_at dksJ7_bitCount_1 2 rfl rfl)
theorem dJ7_bitCount_27 : decode cJ7_bitCount 27 = .ok (.lushr, 1) := dk_125 (dk_at dksJ7_bitCount_1 3 rfl rfl)
theorem dJ7_bitCount_28 : decode cJ7_bitCount 28 = .ok (.ladd, 1) := dk_97 (dk_at dksJ7_bitCount_1 4 rfl rfl)
theorem dJ7_bitCount_29 : decode cJ7_bitCount 29 = .ok (.ldc2_w 318, 3) := dk_20 1 62 (dk_at dksJ7_bitCount_1 5 rfl rfl)
theorem dJ7_bitCount_32 : decode cJ7_bitCount 32 = .ok (.land, 1) := dk_127 (dk_at dksJ7_bitCount_1 8 rfl rfl)
theorem dJ7_bitCount_33 : decode cJ7_bitCount 33 = .ok (.lstore_n 0, 1) := dk_63 (dk_at dksJ7_bitCount_1 9 rfl rfl)
theorem dJ7_bitCount_34 : decode cJ7_bitCount 34 = .ok (.lload_n 0, 1) := dk_30 (dk_at dksJ7_bitCount_1 10 rfl rfl)
theorem dJ7_bitCount_35 : decode cJ7_bitCount 35 = .ok (.lload_n 0, 1) := dk_30 (dk_at dksJ7_bitCount_1 11 rfl rfl)
theorem dJ7_bitCount_36 : decode cJ7_bitCount 36 = .ok (.bipush 8, 2) := dk_16 8 (dk_at dksJ7_bitCount_1 12 rfl rfl)
theorem dJ7_bitCount_38 : decode cJ7_bitCount 38 = .ok (.lushr, 1) := dk_125 (dk_at dksJ7_bitCount_1 14 rfl rfl)
theorem dJ7_bitCount_39 : decode cJ7_bitCount 39 = .ok (.ladd, 1) := dk_97 (dk_at dksJ7_bitCount_1 15 rfl rfl)
theorem dJ7_bitCount_40 : decode cJ7_bitCount 40 = .ok (.lstore_n 0, 1) := dk_63 (dk_at dksJ7_bitCount_1 16 rfl rfl)
theorem dJ7_bitCount_41 : decode cJ7_bitCount 41 = .ok (.lload_n 0, 1) := dk_30 (dk_at dksJ7_bitCount_1 17 rfl rfl)
theorem dJ7_bitCount_42 : decode cJ7_bitCount 42 = .ok (.lload_n 0, 1) := dk_30 (dk_at dksJ7_bitCount_1 18 rfl rfl)
theorem dJ7_bitCount_43 : decode cJ7_bitCount 43 = .ok (.bipush 16, 2) := dk_16 16 (dk_at dksJ7_bitCount_1 19 rfl rfl)
theorem dJ7_bitCount_45 : decode cJ7_bitCount 45 = .ok (.lushr, 1) := dk_125 (dk_at dksJ7_bitCount_1 21 rfl rfl)
theorem dJ7_bitCount_46 : decode cJ7_bitCount 46 = .ok (.ladd, 1) := dk_97 (dk_at dksJ7_bitCount_1 22 rfl rfl)
theorem dJ7_bitCount_47 : decode cJ7_bitCount 47 = .ok (.lstore_n 0, 1) := dk_63 (dk_at dksJ7_bitCount_1 23 rfl rfl)
theorem dJ7_bitCount_48 : decode cJ7_bitCount 48 = .ok (.lload_n 0, 1) := dk_30 (dk_at dksJ7_bitCount_2 0 rfl rfl)
theorem dJ7_bitCount_49 : decode cJ7_bitCount 49 = .ok (.lload_n 0, 1) := dk_30 (dk_at dksJ7_bitCount_2 1 rfl rfl)
theorem dJ7_bitCount_50 : decode cJ7_bitCount 50 = .ok (.bipush 32, 2) := dk_16 32 (dk_at dksJ7_bitCount_2 2 rfl rfl)
theorem dJ7_bitCount_52 : decode cJ7_bitCount 52 = .ok (.lushr, 1) := dk_125 (dk_at dksJ7_bitCount_2 4 rfl rfl)
theorem dJ7_bitCount_53 : decode cJ7_bitCount 53 = .ok (.ladd, 1) := dk_97 (dk_at dksJ7_bitCount_2 5 rfl rfl)
theorem dJ7_bitCount_54 : decode cJ7_bitCount 54 = .ok (.lstore_n 0, 1) := dk_63 (dk_at dksJ7_bitCount_2 6 rfl rfl)
theorem dJ7_bitCount_55 : decode cJ7_bitCount 55 = .ok (.lload_n 0, 1) := dk_30 (dk_at dksJ7_bitCount_2 7 rfl rfl)
theorem dJ7_bitCount_56 : decode cJ7_bitCount 56 = .ok (.l2i, 1) := dk_136 (dk_at dksJ7_bitCount_2 8 rfl rfl)
theorem dJ7_bitCount_57 : decode cJ7_bitCount 57 = .ok (.bipush 127, 2) := dk_16 127 (dk_at dksJ7_bitCount_2 9 rfl rfl)
theorem dJ7_bitCount_59 : decode cJ7_bitCount 59 = .ok (.iand, 1) := dk_126 (dk_at dksJ7_bitCount_2 11 rfl rfl)
theorem dJ7_bitCount_60 : decode cJ7_bitCount 60 = .ok (.ireturn, 1) := dk_172 (dk_at dksJ7_bitCount_2 12 rfl rfl)
theorem dn_J7_bitCount : yJ7_bitCount.cls ≠ "java/lang/invoke/MethodHandle" ∧ yJ7_bitCount.cls ≠ "java/lang/invoke/VarHandle" ∧ (parseMethodDescriptor yJ7_bitCount.desc).map (fun d => d.parameters.length) = some 1 := by decide +kernel
noncomputable def M_J7_bitCount (p1 : Int64) : Mo Int32 := Mo.lv (p1 - (((p1.toUInt64 >>> ((1 : Int32).toInt64.toUInt64 &&& Int64.toUInt64 63)).toInt64) &&& 6148914691236517205)) (fun v1 => Mo.lv ((v1 &&& 3689348814741910323) + (((v1.toUInt64 >>> ((2 : Int32).toInt64.toUInt64 &&& Int64.toUInt64 63)).toInt64) &&& 3689348814741910323)) (fun v2 => Mo.lv ((v2 + ((v2.toUInt64 >>> ((4 : Int32).toInt64.toUInt64 &&& Int64.toUInt64 63)).toInt64)) &&& 1085102592571150095) (fun v3 => Mo.lv (v3 + ((v3.toUInt64 >>> ((8 : Int32).toInt64.toUInt64 &&& Int64.toUInt64 63)).toInt64)) (fun v4 => Mo.lv (v4 + ((v4.toUInt64 >>> ((16 : Int32).toInt64.toUInt64 &&& Int64.toUInt64 63)).toInt64)) (fun v5 => Mo.lv (v5 + ((v5.toUInt64 >>> ((32 : Int32).toInt64.toUInt64 &&& Int64.toUInt64 63)).toInt64)) (fun v6 => Mo.pure (v6.toInt32 &&& 127)))))))
set_option maxHeartbeats 4000000 in
theorem ct_J7_bitCount (G : gG) (p1 : Int64) : gCt G yJ7_bitCount cJ7_bitCount 2 (some .int) 0 0 [.long p1] (M_J7_bitCount p1) (fun x : Int32 => some (.int x)) := by
  refine gCt.of (by decide) (Nat.le_of_ble_eq_true rfl) (fun K r hG X hd ho => ?_)
  subst hG
  have X : gX K cJ7_bitCount 2 "java/lang/Long" "bitCount" (some .int) 0 0 := X
  have hle : gLe (kh1 K) (kh1 K) := gLe.rf
  show V K 2 (kh0 K) 0 [(0, .long p1)] []
  generalize kh0 K = h at hd ⊢
  unfold M_J7_bitCount at hd
  refine v_lload_n X dJ7_bitCount_0 0 0 rfl rfl ?_
  refine v_lload_n X dJ7_bitCount_1 0 0 rfl rfl ?_
  refine v_iconst (v := 1) X dJ7_bitCount_2 (by decide) ?_
  refine v_lushr X dJ7_bitCount_3 ?_
  refine v_ldc2 X q1003 dJ7_bitCount_4 ?_
  refine v_land X dJ7_bitCount_7 ?_
  refine v_lsub X dJ7_bitCount_8 ?_
  refine v_lvL hd (fun v1 hd => ?_)
  refine v_lstore_n (lv2 := [(0, .long v1)]) X dJ7_bitCount_9 0 rfl (by decide) rfl ?_
  refine v_lload_n X dJ7_bitCount_10 0 0 rfl rfl ?_
  refine v_ldc2 X q1004 dJ7_bitCount_11 ?_
  refine v_land X dJ7_bitCount_14 ?_
  refine v_lload_n X dJ7_bitCount_15 0 0 rfl rfl ?_
  refine v_iconst (v := 2) X dJ7_bitCount_16 (by decide) ?_
  refine v_lushr X dJ7_bitCount_17 ?_
  refine v_ldc2 X q1004 dJ7_bitCount_18 ?_
  refine v_land X dJ7_bitCount_21 ?_
  refine v_ladd X dJ7_bitCount_22 ?_
  refine v_lvL hd (fun v2 hd => ?_)
  refine v_lstore_n (lv2 := [(0, .long v2)]) X dJ7_bitCount_23 0 rfl (by decide) rfl ?_
  refine v_lload_n X dJ7_bitCount_24 0 0 rfl rfl ?_
  refine v_lload_n X dJ7_bitCount_25 0 0 rfl rfl ?_
  refine v_iconst (v := 4) X dJ7_bitCount_26 (by decide) ?_
  refine v_lushr X dJ7_bitCount_27 ?_
  refine v_ladd X dJ7_bitCount_28 ?_
  refine v_ldc2 X q1005 dJ7_bitCount_29 ?_
  refine v_land X dJ7_bitCount_32 ?_
  refine v_lvL hd (fun v3 hd => ?_)
  refine v_lstore_n (lv2 := [(0, .long v3)]) X dJ7_bitCount_33 0 rfl (by decide) rfl ?_
  refine v_lload_n X dJ7_bitCount_34 0 0 rfl rfl ?_
  refine v_lload_n X dJ7_bitCount_35 0 0 rfl rfl ?_
  refine v_bipush (v := 8) X dJ7_bitCount_36 (by decide) ?_
  refine v_lushr X dJ7_bitCount_38 ?_
  refine v_ladd X dJ7_bitCount_39 ?_
  refine v_lvL hd (fun v4 hd => ?_)
  refine v_lstore_n (lv2 := [(0, .long v4)]) X dJ7_bitCount_40 0 rfl (by decide) rfl ?_
  refine v_lload_n X dJ7_bitCount_41 0 0 rfl rfl ?_
  refine v_lload_n X dJ7_bitCount_42 0 0 rfl rfl ?_
  refine v_bipush (v := 16) X dJ7_bitCount_43 (by decide) ?_
  refine v_lushr X dJ7_bitCount_45 ?_
  refine v_ladd X dJ7_bitCount_46 ?_
  refine v_lvL hd (fun v5 hd => ?_)
  refine v_lstore_n (lv2 := [(0, .long v5)]) X dJ7_bitCount_47 0 rfl (by decide) rfl ?_
  refine v_lload_n X dJ7_bitCount_48 0 0 rfl rfl ?_
  refine v_lload_n X dJ7_bitCount_49 0 0 rfl rfl ?_
  refine v_bipush (v := 32) X dJ7_bitCount_50 (by decide) ?_
  refine v_lushr X dJ7_bitCount_52 ?_
  refine v_ladd X dJ7_bitCount_53 ?_
  refine v_lvL hd (fun v6 hd => ?_)
  refine v_lstore_n (lv2 := [(0, .long v6)]) X dJ7_bitCount_54 0 rfl (by decide) rfl ?_
  refine v_lload_n X dJ7_bitCount_55 0 0 rfl rfl ?_
  refine v_l2i X dJ7_bitCount_56 ?_
  refine v_bipush (v := 127) X dJ7_bitCount_57 (by decide) ?_
  refine v_iand X dJ7_bitCount_59 ?_
  exact v_iret X hd ho dJ7_bitCount_60
def dkwX12_init_0 : List UInt8 := [42, 183, 0, 3, 42, 16, 9, 188, 10, 181, 0, 9, 177]
abbrev dktX12_init_0 : List UInt8 := dkwX12_init_0 ++ []
theorem dksX12_init_0 : cX12_init.data.toList.drop 0 = dktX12_init_0 := by decide +kernel
theorem dX12_init_0 : decode cX12_init 0 = .ok (.aload_n 0, 1) := dk_42 (dk_at dksX12_init_0 0 rfl rfl)
theorem dX12_init_1 : decode cX12_init 1 = .ok (.invokespecial 3, 3) := dk_183 0 3 (dk_at dksX12_init_0 1 rfl rfl)
theorem dX12_init_4 : decode cX12_init 4 = .ok (.aload_n 0, 1) := dk_42 (dk_at dksX12_init_0 4 rfl rfl)
theorem dX12_init_5 : decode cX12_init 5 = .ok (.bipush 9, 2) := dk_16 9 (dk_at dksX12_init_0 5 rfl rfl)
theorem dX12_init_7 : decode cX12_init 7 = .ok (.newarray .int, 2) := dk_188_10 (dk_at dksX12_init_0 7 rfl rfl)
theorem dX12_init_9 : decode cX12_init 9 = .ok (.putfield 9, 3) := dk_181 0 9 (dk_at dksX12_init_0 9 rfl rfl)
theorem dX12_init_12 : decode cX12_init 12 = .ok (.return_, 1) := dk_177 (dk_at dksX12_init_0 12 rfl rfl)
theorem fp_X12_9_i : gFp "BitingDoors$Cells" "<init>" 9 [10] 0 (.array .int) := by
  intro args s hts hN ci hc
  simp only [List.mem_cons, List.not_mem_nil, or_false] at hc
  subst hc
  exact ⟨RX12, TX12, 5, "BitingDoors$Cells", gCl_X12, in_X12, by decide, Or.inr ⟨rfl, rfl, rfl, gFin hts in_X12 (k := 0) (by decide) rfl, hts _ q937⟩, fun _ h => h, rfl, fun D tys hK => gap_X12 hts hK⟩
theorem dn_X12_init : yX12_init.cls ≠ "java/lang/invoke/MethodHandle" ∧ yX12_init.cls ≠ "java/lang/invoke/VarHandle" ∧ (parseMethodDescriptor yX12_init.desc).map (fun d => d.parameters.length) = some 0 := by decide +kernel
noncomputable def M_X12_init (t : Nat) : Mo Unit := Mo.bind (nwI 0 9) (fun q1 => Mo.bind (pF [10] t 0 (.ref q1)) (fun _ => Mo.pure ()))
set_option maxHeartbeats 4000000 in
theorem ct_X12_init (G : gG) (t : Nat) : gCt G yX12_init cX12_init 1 none 1 20 [.ref t] (M_X12_init t) (fun _ : Unit => none) := by
  refine gCt.of (by decide) (Nat.le_of_ble_eq_true rfl) (fun K r hG X hd ho => ?_)
  subst hG
  have X : gX K cX12_init 1 "BitingDoors$Cells" "<init>" none 1 20 := X
  have hle : gLe (kh1 K) (kh1 K) := gLe.rf
  show V K 1 (kh0 K) 0 [(0, .ref t)] []
  generalize kh0 K = h at hd ⊢
  unfold M_X12_init at hd
  refine v_aload_n X dX12_init_0 0 0 rfl rfl ?_
  refine v_objInit X q936 q152 q153 (Nat.le_of_ble_eq_true rfl) dX12_init_1 (by decide) (by decide) ?_
  refine v_aload_n X dX12_init_4 0 0 rfl rfl ?_
  refine v_bipush (v := 9) X dX12_init_5 (by decide) ?_
  refine v_newI X hd hle 0 rfl rfl rfl (fun _ z => by cases z) (by decide) q317 dX12_init_7 (fun q1 h hd => ?_)
  refine v_put (v := .ref q1) X hd fp_X12_9_i rfl rfl dX12_init_9 (fun h hd => ?_)
  exact v_vret X hd ho dX12_init_12
def dkwX12_has_1 : List UInt8 := [16, 50, 100, 123, 10, 127, 10, 148, 154, 0, 7, 4, 167, 0, 4, 3, 172]
abbrev dktX12_has_1 : List UInt8 := dkwX12_has_1 ++ []
def dkwX12_has_0 : List UInt8 := [27, 155, 0, 38, 27, 16, 50, 162, 0, 12, 42, 180, 0, 35, 27, 123, 167, 0, 12, 42, 180, 0, 39, 27]
abbrev dktX12_has_0 : List UInt8 := dkwX12_has_0 ++ dktX12_has_1
theorem dksX12_has_0 : cX12_has.data.toList.drop 0 = dktX12_has_0 := by decide +kernel
theorem dksX12_has_1 : cX12_has.data.toList.drop 24 = dktX12_has_1 := dk_seg dksX12_has_0 24 rfl rfl
theorem dX12_has_0 : decode cX12_has 0 = .ok (.iload_n 1, 1) := dk_27 (dk_at dksX12_has_0 0 rfl rfl)
theorem dX12_has_1 : decode cX12_has 1 = .ok (.ifCond .lt 38, 3) := dk_155 0 38 (dk_at dksX12_has_0 1 rfl rfl)
theorem dX12_has_4 : decode cX12_has 4 = .ok (.iload_n 1, 1) := dk_27 (dk_at dksX12_has_0 4 rfl rfl)
theorem dX12_has_5 : decode cX12_has 5 = .ok (.bipush 50, 2) := dk_16 50 (dk_at dksX12_has_0 5 rfl rfl)
theorem dX12_has_7 : decode cX12_has 7 = .ok (.if_icmp .ge 12, 3) := dk_162 0 12 (dk_at dksX12_has_0 7 rfl rfl)
theorem dX12_has_10 : decode cX12_has 10 = .ok (.aload_n 0, 1) := dk_42 (dk_at dksX12_has_0 10 rfl rfl)
theorem dX12_has_11 : decode cX12_has 11 = .ok (.getfield 35, 3) := dk_180 0 35 (dk_at dksX12_has_0 11 rfl rfl)
theorem dX12_has_14 : decode cX12_has 14 = .ok (.iload_n 1, 1) := dk_27 (dk_at dksX12_has_0 14 rfl rfl)
theorem dX12_has_15 : decode cX12_has 15 = .ok (.lshr, 1) := dk_123 (dk_at dksX12_has_0 15 rfl rfl)
theorem dX12_has_16 : decode cX12_has 16 = .ok (.goto 12, 3) := dk_167 0 12 (dk_at dksX12_has_0 16 rfl rfl)
theorem dX12_has_19 : decode cX12_has 19 = .ok (.aload_n 0, 1) := dk_42 (dk_at dksX12_has_0 19 rfl rfl)
theorem dX12_has_20 : decode cX12_has 20 = .ok (.getfield 39, 3) := dk_180 0 39 (dk_at dksX12_has_0 20 rfl rfl)
theorem dX12_has_23 : decode cX12_has 23 = .ok (.iload_n 1, 1) := dk_27 (dk_at dksX12_has_0 23 rfl rfl)
theorem dX12_has_24 : decode cX12_has 24 = .ok (.bipush 50, 2) := dk_16 50 (dk_at dksX12_has_1 0 rfl rfl)
theorem dX12_has_26 : decode cX12_has 26 = .ok (.isub, 1) := dk_100 (dk_at dksX12_has_1 2 rfl rfl)
theorem dX12_has_27 : decode cX12_has 27 = .ok (.lshr, 1) := dk_123 (dk_at dksX12_has_1 3 rfl rfl)
theorem dX12_has_28 : decode cX12_has 28 = .ok (.lconst 1, 1) := dk_10 (dk_at dksX12_has_1 4 rfl rfl)
theorem dX12_has_29 : decode cX12_has 29 = .ok (.land, 1) := dk_127 (dk_at dksX12_has_1 5 rfl rfl)
theorem dX12_has_30 : decode cX12_has 30 = .ok (.lconst 1, 1) := dk_10 (dk_at dksX12_has_1 6 rfl rfl)
theorem dX12_has_31 : decode cX12_has 31 = .ok (.lcmp, 1) := dk_148 (dk_at dksX12_has_1 7 rfl rfl)
theorem dX12_has_32 : decode cX12_has 32 = .ok (.ifCond .ne 7, 3) := dk_154 0 7 (dk_at dksX12_has_1 8 rfl rfl)
theorem dX12_has_35 : decode cX12_has 35 = .ok (.iconst 1, 1) := dk_4 (dk_at dksX12_has_1 11 rfl rfl)
theorem dX12_has_36 : decode cX12_has 36 = .ok (.goto 4, 3) := dk_167 0 4 (dk_at dksX12_has_1 12 rfl rfl)
theorem dX12_has_39 : decode cX12_has 39 = .ok (.iconst 0, 1) := dk_3 (dk_at dksX12_has_1 15 rfl rfl)
theorem dX12_has_40 : decode cX12_has 40 = .ok (.ireturn, 1) := dk_172 (dk_at dksX12_has_1 16 rfl rfl)
theorem fl_X12_35 : gFl "BitingDoors$Cells" 35 [10] 2 := by
  intro args s hts hN ci hc
  simp only [List.mem_cons, List.not_mem_nil, or_false] at hc
  subst hc
  exact ⟨RX12, TX12, 5, "BitingDoors$Cells", gCl_X12, in_X12, by decide, Or.inl (hts _ q940), fun _ h => h⟩
theorem fl_X12_39 : gFl "BitingDoors$Cells" 39 [10] 3 := by
  intro args s hts hN ci hc
  simp only [List.mem_cons, List.not_mem_nil, or_false] at hc
  subst hc
  exact ⟨RX12, TX12, 5, "BitingDoors$Cells", gCl_X12, in_X12, by decide, Or.inl (hts _ q941), fun _ h => h⟩
theorem dn_X12_has : yX12_has.cls ≠ "java/lang/invoke/MethodHandle" ∧ yX12_has.cls ≠ "java/lang/invoke/VarHandle" ∧ (parseMethodDescriptor yX12_has.desc).map (fun d => d.parameters.length) = some 1 := by decide +kernel
noncomputable def M_X12_has (t : Nat) (p1 : Int32) : Mo Bool := Mo.bind (chk [10] t) (fun _ => Mo.bind ((if p1 < 0 then Mo.pure false else Mo.bind ((if 50 ≤ p1 then Mo.bind (gL [10] t 3) (fun v3 => Mo.pure (v3 >>> ((p1 - 50).toInt64 &&& 63))) else Mo.bind (gL [10] t 2) (fun v4 => Mo.pure (v4 >>> (p1.toInt64 &&& 63))) : Mo (Int64))) (fun u2 => if (lg_cmp (u2 &&& 1) 1) = 0 then Mo.pure true else Mo.pure false) : Mo (Bool))) (fun u1 => Mo.pure u1))
set_option maxHeartbeats 4000000 in
theorem ct_X12_has (G : gG) (t : Nat) (p1 : Int32) : gCt G yX12_has cX12_has 2 (some .boolean) 0 0 [.ref t, .int p1] (M_X12_has t p1) (fun x : Bool => some (.int (b2i x))) := by
  refine gCt.of (by decide) (Nat.le_of_ble_eq_true rfl) (fun K r hG X hd ho => ?_)
  subst hG
  have X : gX K cX12_has 2 "BitingDoors$Cells" "has" (some .boolean) 0 0 := X
  have hle : gLe (kh1 K) (kh1 K) := gLe.rf
  show V K 2 (kh0 K) 0 [(0, .ref t), (1, .int p1)] []
  generalize kh0 K = h at hd ⊢
  unfold M_X12_has at hd
  obtain ⟨-, hd⟩ := chk_some hd
  refine v_iload_n X dX12_has_0 1 1 rfl rfl ?_
  obtain ⟨u1, h1, hd, hd2⟩ := Mo.bind_some hd
  have KJ : V K 2 h1 40 [] [.int (b2i u1)] := by
    clear hd
    have hd := hd2
    exact v_zret X hd rfl ho dX12_has_40
  have hle := (Mo.le hd2).tr hle
  clear hd2
  refine v_if_lt (tgt := 39) X dX12_has_1 (by decide) (fun q => ?_) (fun q => ?_)
  · have hd := ite_t q hd
    refine v_iconst (v := 0) X dX12_has_39 (by decide) ?_
    exact v_loc [] rfl (v_at (P := fun (u1 : Bool) h => V K 2 h 40 [] [.int (b2i u1)]) hd KJ)
  · have hd := ite_f q hd
    refine v_iload_n X dX12_has_4 1 1 rfl rfl ?_
    refine v_bipush (v := 50) X dX12_has_5 (by decide) ?_
    obtain ⟨u2, h1, hd, hd2⟩ := Mo.bind_some hd
    have KJ : V K 2 h1 28 [] [.long u2] := by
      clear hd
      have hd := hd2
      refine v_lconst (v := 1) X dX12_has_28 (by decide) ?_
      refine v_land X dX12_has_29 ?_
      refine v_lconst (v := 1) X dX12_has_30 (by decide) ?_
      refine v_lcmp X dX12_has_31 ?_
      refine v_if_ne (tgt := 39) X dX12_has_32 (by decide) (fun q => ?_) (fun q => ?_)
      · have hd := ite_f q hd
        refine v_iconst (v := 0) X dX12_has_39 (by decide) ?_
        exact v_loc [] rfl (v_at (P := fun (u1 : Bool) h => V K 2 h 40 [] [.int (b2i u1)]) hd KJ)
      · have hd := ite_t q hd
        refine v_iconst (v := 1) X dX12_has_35 (by decide) ?_
        refine v_goto (tgt := 40) X dX12_has_36 (by decide) ?_
        exact v_loc [] rfl (v_at (P := fun (u1 : Bool) h => V K 2 h 40 [] [.int (b2i u1)]) hd KJ)
    have hle := (Mo.le hd2).tr hle
    clear hd2
    refine v_icmp_ge (tgt := 19) X dX12_has_7 (by decide) (fun q => ?_) (fun q => ?_)
    · have hd := ite_t q hd
      refine v_aload_n X dX12_has_19 0 0 rfl rfl ?_
      refine v_getL X hd fl_X12_39 dX12_has_20 (fun v3 hd => ?_)
      refine v_iload_n X dX12_has_23 1 1 rfl rfl ?_
      refine v_bipush (v := 50) X dX12_has_24 (by decide) ?_
      refine v_isub X dX12_has_26 ?_
      refine v_lshr X dX12_has_27 ?_
      exact v_loc [] rfl (v_at (P := fun (u2 : Int64) h => V K 2 h 28 [] [.long u2]) hd KJ)
    · have hd := ite_f q hd
      refine v_aload_n X dX12_has_10 0 0 rfl rfl ?_
      refine v_getL X hd fl_X12_35 dX12_has_11 (fun v4 hd => ?_)
      refine v_iload_n X dX12_has_14 1 1 rfl rfl ?_
      refine v_lshr X dX12_has_15 ?_
      refine v_goto (tgt := 28) X dX12_has_16 (by decide) ?_
      exact v_loc [] rfl (v_at (P := fun (u2 : Int64) h => V K 2 h 28 [] [.long u2]) hd KJ)
def dkwX12_put_2_4 : List UInt8 := [177]
abbrev dktX12_put_2_4 : List UInt8 := dkwX12_put_2_4 ++ []
def dkwX12_put_2_3 : List UInt8 := [27, 121, 129, 181, 0, 35, 167, 0, 18, 42, 89, 180, 0, 39, 10, 27, 16, 50, 100, 121, 129, 181, 0, 39]
abbrev dktX12_put_2_3 : List UInt8 := dkwX12_put_2_3 ++ dktX12_put_2_4
def dkwX12_put_2_2 : List UInt8 := [27, 79, 42, 89, 180, 0, 31, 4, 96, 181, 0, 31, 27, 16, 50, 162, 0, 18, 42, 89, 180, 0, 35, 10]
abbrev dktX12_put_2_2 : List UInt8 := dkwX12_put_2_2 ++ dktX12_put_2_3
def dkwX12_put_2_1 : List UInt8 := [180, 0, 9, 28, 42, 180, 0, 9, 28, 4, 100, 46, 79, 132, 2, 255, 167, 255, 223, 42, 180, 0, 9, 28]
abbrev dktX12_put_2_1 : List UInt8 := dkwX12_put_2_1 ++ dktX12_put_2_2
def dkwX12_put_2_0 : List UInt8 := [42, 180, 0, 31, 61, 28, 158, 0, 35, 42, 180, 0, 9, 28, 4, 100, 46, 27, 164, 0, 23, 42]
abbrev dktX12_put_2_0 : List UInt8 := dkwX12_put_2_0 ++ dktX12_put_2_1
theorem dksX12_put_2_0 : cX12_put_2.data.toList.drop 0 = dktX12_put_2_0 := by decide +kernel
theorem dksX12_put_2_1 : cX12_put_2.data.toList.drop 22 = dktX12_put_2_1 := dk_seg dksX12_put_2_0 22 rfl rfl
theorem dksX12_put_2_2 : cX12_put_2.data.toList.drop 46 = dktX12_put_2_2 := dk_seg dksX12_put_2_1 24 rfl rfl
theorem dksX12_put_2_3 : cX12_put_2.data.toList.drop 70 = dktX12_put_2_3 := dk_seg dksX12_put_2_2 24 rfl rfl
theorem dksX12_put_2_4 : cX12_put_2.data.toList.drop 94 = dktX12_put_2_4 := dk_seg dksX12_put_2_3 24 rfl rfl
theorem dX12_put_2_0 : decode cX12_put_2 0 = .ok (.aload_n 0, 1) := dk_42 (dk_at dksX12_put_2_0 0 rfl rfl)
theorem dX12_put_2_1 : decode cX12_put_2 1 = .ok (.getfield 31, 3) := dk_180 0 31 (dk_at dksX12_put_2_0 1 rfl rfl)
theorem dX12_put_2_4 : decode cX12_put_2 4 = .ok (.istore_n 2, 1) := dk_61 (dk_at dksX12_put_2_0 4 rfl rfl)
theorem dX12_put_2_5 : decode cX12_put_2 5 = .ok (.iload_n 2, 1) := dk_28 (dk_at dksX12_put_2_0 5 rfl rfl)
theorem dX12_put_2_6 : decode cX12_put_2 6 = .ok (.ifCond .le 35, 3) := dk_158 0 35 (dk_at dksX12_put_2_0 6 rfl rfl)
theorem dX12_put_2_9 : decode cX12_put_2 9 = .ok (.aload_n 0, 1) := dk_42 (dk_at dksX12_put_2_0 9 rfl rfl)
theorem dX12_put_2_10 : decode cX12_put_2 10 = .ok (.getfield 9, 3) := dk_180 0 9 (dk_at dksX12_put_2_0 10 rfl rfl)
theorem dX12_put_2_13 : decode cX12_put_2 13 = .ok (.iload_n 2, 1) := dk_28 (dk_at dksX12_put_2_0 13 rfl rfl)
theorem dX12_put_2_14 : decode cX12_put_2 14 = .ok (.iconst 1, 1) := dk_4 (dk_at dksX12_put_2_0 14 rfl rfl)
theorem dX12_put_2_15 : decode cX12_put_2 15 = .ok (.isub, 1) := dk_100 (dk_at dksX12_put_2_0 15 rfl rfl)
theorem dX12_put_2_16 : decode cX12_put_2 16 = .ok (.iaload, 1) := dk_46 (dk_at dksX12_put_2_0 16 rfl rfl)
theorem dX12_put_2_17 : decode cX12_put_2 17 = .ok (.iload_n 1, 1) := dk_27 (dk_at dksX12_put_2_0 17 rfl rfl)
theorem dX12_put_2_18 : decode cX12_put_2 18 = .ok (.if_icmp .le 23, 3) := dk_164 0 23 (dk_at dksX12_put_2_0 18 rfl rfl)
theorem dX12_put_2_21 : decode cX12_put_2 21 = .ok (.aload_n 0, 1) := dk_42 (dk_at dksX12_put_2_0 21 rfl rfl)
theorem dX12_put_2_22 : decode cX12_put_2 22 = .ok (.getfield 9, 3) := dk_180 0 9 (dk_at dksX12_put_2_1 0 rfl rfl)
theorem dX12_put_2_25 : decode cX12_put_2 25 = .ok (.iload_n 2, 1) := dk_28 (dk_at dksX12_put_2_1 3 rfl rfl)
theorem dX12_put_2_26 : decode cX12_put_2 26 = .ok (.aload_n 0, 1) := dk_42 (dk_at dksX12_put_2_1 4 rfl rfl)
theorem dX12_put_2_27 : decode cX12_put_2 27 = .ok (.getfield 9, 3) := dk_180 0 9 (dk_at dksX12_put_2_1 5 rfl rfl)
theorem dX12_put_2_30 : decode cX12_put_2 30 = .ok (.iload_n 2, 1) := dk_28 (dk_at dksX12_put_2_1 8 rfl rfl)
theorem dX12_put_2_31 : decode cX12_put_2 31 = .ok (.iconst 1, 1) := dk_4 (dk_at dksX12_put_2_1 9 rfl rfl)
theorem dX12_put_2_32 : decode cX12_put_2 32 = .ok (.isub, 1) := dk_100 (dk_at dksX12_put_2_1 10 rfl rfl)
theorem dX12_put_2_33 : decode cX12_put_2 33 = .ok (.iaload, 1) := dk_46 (dk_at dksX12_put_2_1 11 rfl rfl)
theorem dX12_put_2_34 : decode cX12_put_2 34 = .ok (.iastore, 1) := dk_79 (dk_at dksX12_put_2_1 12 rfl rfl)
theorem dX12_put_2_35 : decode cX12_put_2 35 = .ok (.iinc 2 (-1), 3) := dk_132 2 255 (dk_at dksX12_put_2_1 13 rfl rfl)
theorem dX12_put_2_38 : decode cX12_put_2 38 = .ok (.goto (-33), 3) := dk_167 255 223 (dk_at dksX12_put_2_1 16 rfl rfl)
theorem dX12_put_2_41 : decode cX12_put_2 41 = .ok (.aload_n 0, 1) := dk_42 (dk_at dksX12_put_2_1 19 rfl rfl)
theorem dX12_put_2_42 : decode cX12_put_2 42 = .ok (.getfield 9, 3) := dk_180 0 9 (dk_at dksX12_put_2_1 20 rfl rfl)
theorem dX12_put_2_45 : decode cX12_put_2 45 = .ok (.iload_n 2, 1) := dk_28 (dk_at dksX12_put_2_1 23 rfl rfl)
theorem dX12_put_2_46 : decode cX12_put_2 46 = .ok (.iload_n 1, 1) := dk_27 (dk_at dksX12_put_2_2 0 rfl rfl)
theorem dX12_put_2_47 : decode cX12_put_2 47 = .ok (.iastore, 1) := dk_79 (dk_at dksX12_put_2_2 1 rfl rfl)
theorem dX12_put_2_48 : decode cX12_put_2 48 = .ok (.aload_n 0, 1) := dk_42 (dk_at dksX12_put_2_2 2 rfl rfl)
theorem dX12_put_2_49 : decode cX12_put_2 49 = .ok (.dup, 1) := dk_89 (dk_at dksX12_put_2_2 3 rfl rfl)
theorem dX12_put_2_50 : decode cX12_put_2 50 = .ok (.getfield 31, 3) := dk_180 0 31 (dk_at dksX12_put_2_2 4 rfl rfl)
theorem dX12_put_2_53 : decode cX12_put_2 53 = .ok (.iconst 1, 1) := dk_4 (dk_at dksX12_put_2_2 7 rfl rfl)
theorem dX12_put_2_54 : decode cX12_put_2 54 = .ok (.iadd, 1) := dk_96 (dk_at dksX12_put_2_2 8 rfl rfl)
theorem dX12_put_2_55 : decode cX12_put_2 55 = .ok (.putfield 31, 3) := dk_181 0 31 (dk_at dksX12_put_2_2 9 rfl rfl)
theorem dX12_put_2_58 : decode cX12_put_2 58 = .ok (.iload_n 1, 1) := dk_27 (dk_at dksX12_put_2_2 12 rfl rfl)
theorem dX12_put_2_59 : decode cX12_put_2 59 = .ok (.bipush 50, 2) := dk_16 50 (dk_at dksX12_put_2_2 13 rfl rfl)
theorem dX12_put_2_61 : decode cX12_put_2 61 = .ok (.if_icmp .ge 18, 3) := dk_162 0 18 (dk_at dksX12_put_2_2 15 rfl rfl)
theorem dX12_put_2_64 : decode cX12_put_2 64 = .ok (.aload_n 0, 1) := dk_42 (dk_at dksX12_put_2_2 18 rfl rfl)
theorem dX12_put_2_65 : decode cX12_put_2 65 = .ok (.dup, 1) := dk_89 (dk_at dksX12_put_2_2 19 rfl rfl)
theorem dX12_put_2_66 : decode cX12_put_2 66 = .ok (.getfield 35, 3) := dk_180 0 35 (dk_at dksX12_put_2_2 20 rfl rfl)
theorem dX12_put_2_69 : decode cX12_put_2 69 = .ok (.lconst 1, 1) := dk_10 (dk_at dksX12_put_2_2 23 rfl rfl)
theorem dX12_put_2_70 : decode cX12_put_2 70 = .ok (.iload_n 1, 1) := dk_27 (dk_at dksX12_put_2_3 0 rfl rfl)
theorem dX12_put_2_71 : decode cX12_put_2 71 = .ok (.lshl, 1) := dk_121 (dk_at dksX12_put_2_3 1 rfl rfl)
theorem dX12_put_2_72 : decode cX12_put_2 72 = .ok (.lor, 1) := dk_129 (dk_at dksX12_put_2_3 2 rfl rfl)
theorem dX12_put_2_73 : decode cX12_put_2 73 = .ok (.putfield 35, 3) := dk_181 0 35 (dk_at dksX12_put_2_3 3 rfl rfl)
theorem dX12_put_2_76 : decode cX12_put_2 76 = .ok (.goto 18, 3) := dk_167 0 18 (dk_at dksX12_put_2_3 6 rfl rfl)
theorem dX12_put_2_79 : decode cX12_put_2 79 = .ok (.aload_n 0, 1) := dk_42 (dk_at dksX12_put_2_3 9 rfl rfl)
theorem dX12_put_2_80 : decode cX12_put_2 80 = .ok (.dup, 1) := dk_89 (dk_at dksX12_put_2_3 10 rfl rfl)
theorem dX12_put_2_81 : decode cX12_put_2 81 = .ok (.getfield 39, 3) := dk_180 0 39 (dk_at dksX12_put_2_3 11 rfl rfl)
theorem dX12_put_2_84 : decode cX12_put_2 84 = .ok (.lconst 1, 1) := dk_10 (dk_at dksX12_put_2_3 14 rfl rfl)
theorem dX12_put_2_85 : decode cX12_put_2 85 = .ok (.iload_n 1, 1) := dk_27 (dk_at dksX12_put_2_3 15 rfl rfl)
theorem dX12_put_2_86 : decode cX12_put_2 86 = .ok (.bipush 50, 2) := dk_16 50 (dk_at dksX12_put_2_3 16 rfl rfl)
theorem dX12_put_2_88 : decode cX12_put_2 88 = .ok (.isub, 1) := dk_100 (dk_at dksX12_put_2_3 18 rfl rfl)
theorem dX12_put_2_89 : decode cX12_put_2 89 = .ok (.lshl, 1) := dk_121 (dk_at dksX12_put_2_3 19 rfl rfl)
theorem dX12_put_2_90 : decode cX12_put_2 90 = .ok (.lor, 1) := dk_129 (dk_at dksX12_put_2_3 20 rfl rfl)
theorem dX12_put_2_91 : decode cX12_put_2 91 = .ok (.putfield 39, 3) := dk_181 0 39 (dk_at dksX12_put_2_3 21 rfl rfl)
theorem dX12_put_2_94 : decode cX12_put_2 94 = .ok (.return_, 1) := dk_177 (dk_at dksX12_put_2_4 0 rfl rfl)
theorem fl_X12_31 : gFl "BitingDoors$Cells" 31 [10] 1 := by
  intro args s hts hN ci hc
  simp only [List.mem_cons, List.not_mem_nil, or_false] at hc
  subst hc
  exact ⟨RX12, TX12, 5, "BitingDoors$Cells", gCl_X12, in_X12, by decide, Or.inl (hts _ q939), fun _ h => h⟩
theorem fl_X12_9 : gFl "BitingDoors$Cells" 9 [10] 0 := by
  intro args s hts hN ci hc
  simp only [List.mem_cons, List.not_mem_nil, or_false] at hc
  subst hc
  exact ⟨RX12, TX12, 5, "BitingDoors$Cells", gCl_X12, in_X12, by decide, Or.inl (hts _ q937), fun _ h => h⟩
theorem fp_X12_31 {nm : String} : gFp "BitingDoors$Cells" nm 31 [10] 1 .int := by
  intro args s hts hN ci hc
  simp only [List.mem_cons, List.not_mem_nil, or_false] at hc
  subst hc
  exact ⟨RX12, TX12, 5, "BitingDoors$Cells", gCl_X12, in_X12, by decide, Or.inl ⟨rfl, Or.inl (hts _ q939)⟩, fun _ h => h, rfl, fun D tys hK => gap_X12 hts hK⟩
theorem fp_X12_35 {nm : String} : gFp "BitingDoors$Cells" nm 35 [10] 2 .long := by
  intro args s hts hN ci hc
  simp only [List.mem_cons, List.not_mem_nil, or_false] at hc
  subst hc
  exact ⟨RX12, TX12, 5, "BitingDoors$Cells", gCl_X12, in_X12, by decide, Or.inl ⟨rfl, Or.inl (hts _ q940)⟩, fun _ h => h, rfl, fun D tys hK => gap_X12 hts hK⟩
theorem fp_X12_39 {nm : String} : gFp "BitingDoors$Cells" nm 39 [10] 3 .long := by
  intro args s hts hN ci hc
  simp only [List.mem_cons, List.not_mem_nil, or_false] at hc
  subst hc
  exact ⟨RX12, TX12, 5, "BitingDoors$Cells", gCl_X12, in_X12, by decide, Or.inl ⟨rfl, Or.inl (hts _ q941)⟩, fun _ h => h, rfl, fun D tys hK => gap_X12 hts hK⟩
theorem dn_X12_put_2 : yX12_put_2.cls ≠ "java/lang/invoke/MethodHandle" ∧ yX12_put_2.cls ≠ "java/lang/invoke/VarHandle" ∧ (parseMethodDescriptor yX12_put_2.desc).map (fun d => d.parameters.length) = some 1 := by decide +kernel
noncomputable def M_X12_put_2 (t : Nat) (p1 : Int32) : Mo Unit := Mo.bind (chk [10] t) (fun _ => Mo.bind (gI [10] t 1) (fun v1 => Mo.bind (Mo.loop (S := Int32) (E := Int32) (fun s2 => if s2 ≤ 0 then Mo.pure (Sum.inr s2) else Mo.bind (gR [10] t 0) (fun v6 => Mo.bind (aldI 0 v6 (s2 - 1)) (fun v7 => if v7 ≤ p1 then Mo.pure (Sum.inr s2) else Mo.bind (gR [10] t 0) (fun v8 => Mo.bind (gR [10] t 0) (fun v9 => Mo.bind (aldI 0 v9 (s2 - 1)) (fun v10 => Mo.bind (astI 0 v8 s2 v10) (fun _ => Mo.lv (s2 + (-1)) (fun v11 => Mo.pure (Sum.inl v11))))))))) v1) (fun e5 => Mo.bind (gR [10] t 0) (fun v12 => Mo.bind (astI 0 v12 e5 p1) (fun _ => Mo.bind (gI [10] t 1) (fun v13 => Mo.bind (pF [10] t 1 (.int (v13 + 1))) (fun _ => Mo.bind ((if 50 ≤ p1 then Mo.bind (gL [10] t 3) (fun v15 => Mo.bind (pF [10] t 3 (.long (v15 ||| ((1 : Int64) <<< ((p1 - 50).toInt64 &&& 63))))) (fun _ => Mo.pure ())) else Mo.bind (gL [10] t 2) (fun v16 => Mo.bind (pF [10] t 2 (.long (v16 ||| ((1 : Int64) <<< (p1.toInt64 &&& 63))))) (fun _ => Mo.pure ())) : Mo (Unit))) (fun u14 => Mo.pure ()))))))))
set_option maxHeartbeats 4000000 in
theorem ct_X12_put_2 (G : gG) (t : Nat) (p1 : Int32) : gCt G yX12_put_2 cX12_put_2 3 none 0 0 [.ref t, .int p1] (M_X12_put_2 t p1) (fun _ : Unit => none) := by
  refine gCt.of (by decide) (Nat.le_of_ble_eq_true rfl) (fun K r hG X hd ho => ?_)
  subst hG
  have X : gX K cX12_put_2 3 "BitingDoors$Cells" "put" none 0 0 := X
  have hle : gLe (kh1 K) (kh1 K) := gLe.rf
  show V K 3 (kh0 K) 0 [(0, .ref t), (1, .int p1)] []
  generalize kh0 K = h at hd ⊢
  unfold M_X12_put_2 at hd
  obtain ⟨-, hd⟩ := chk_some hd
  refine v_aload_n X dX12_put_2_0 0 0 rfl rfl ?_
  refine v_getI X hd fl_X12_31 dX12_put_2_1 (fun v1 hd => ?_)
  refine v_istore_n (lv2 := [(2, .int v1), (0, .ref t), (1, .int p1)]) X dX12_put_2_4 2 rfl (by decide) rfl ?_
  obtain ⟨e5, h1, hd, hd2⟩ := Mo.bind_some hd
  have KX : V K 3 h1 41 [(0, .ref t), (1, .int p1), (2, .int e5)] [] := by
    clear hd
    have hd := hd2
    refine v_aload_n X dX12_put_2_41 0 0 rfl rfl ?_
    refine v_getR X hd fl_X12_9 dX12_put_2_42 (fun v12 hd => ?_)
    refine v_iload_n X dX12_put_2_45 2 2 rfl rfl ?_
    refine v_iload_n X dX12_put_2_46 1 1 rfl rfl ?_
    refine v_iast X hd dX12_put_2_47 (fun h hd => ?_)
    refine v_aload_n X dX12_put_2_48 0 0 rfl rfl ?_
    refine v_dup X dX12_put_2_49 rfl ?_
    refine v_getI X hd fl_X12_31 dX12_put_2_50 (fun v13 hd => ?_)
    refine v_iconst (v := 1) X dX12_put_2_53 (by decide) ?_
    refine v_iadd X dX12_put_2_54 ?_
    refine v_put (v := .int (v13 + 1)) X hd fp_X12_31 rfl rfl dX12_put_2_55 (fun h hd => ?_)
    refine v_iload_n X dX12_put_2_58 1 1 rfl rfl ?_
    refine v_bipush (v := 50) X dX12_put_2_59 (by decide) ?_
    obtain ⟨u14, h1, hd, hd2⟩ := Mo.bind_some hd
    have KJ : V K 3 h1 94 [] [] := by
      clear hd
      have hd := hd2
      exact v_vret X hd ho dX12_put_2_94
    have hle := (Mo.le hd2).tr hle
    clear hd2
    refine v_icmp_ge (tgt := 79) X dX12_put_2_61 (by decide) (fun q => ?_) (fun q => ?_)
    · have hd := ite_t q hd
      refine v_aload_n X dX12_put_2_79 0 0 rfl rfl ?_
      refine v_dup X dX12_put_2_80 rfl ?_
      refine v_getL X hd fl_X12_39 dX12_put_2_81 (fun v15 hd => ?_)
      refine v_lconst (v := 1) X dX12_put_2_84 (by decide) ?_
      refine v_iload_n X dX12_put_2_85 1 1 rfl rfl ?_
      refine v_bipush (v := 50) X dX12_put_2_86 (by decide) ?_
      refine v_isub X dX12_put_2_88 ?_
      refine v_lshl X dX12_put_2_89 ?_
      refine v_lor X dX12_put_2_90 ?_
      refine v_put (v := .long (v15 ||| ((1 : Int64) <<< ((p1 - 50).toInt64 &&& 63)))) X hd fp_X12_39 rfl rfl dX12_put_2_91 (fun h hd => ?_)
      exact v_loc [] rfl (v_at (P := fun (u14 : Unit) h => V K 3 h 94 [] []) hd KJ)
    · have hd := ite_f q hd
      refine v_aload_n X dX12_put_2_64 0 0 rfl rfl ?_
      refine v_dup X dX12_put_2_65 rfl ?_
      refine v_getL X hd fl_X12_35 dX12_put_2_66 (fun v16 hd => ?_)
      refine v_lconst (v := 1) X dX12_put_2_69 (by decide) ?_
      refine v_iload_n X dX12_put_2_70 1 1 rfl rfl ?_
      refine v_lshl X dX12_put_2_71 ?_
      refine v_lor X dX12_put_2_72 ?_
      refine v_put (v := .long (v16 ||| ((1 : Int64) <<< (p1.toInt64 &&& 63)))) X hd fp_X12_35 rfl rfl dX12_put_2_73 (fun h hd => ?_)
      refine v_goto (tgt := 94) X dX12_put_2_76 (by decide) ?_
      exact v_loc [] rfl (v_at (P := fun (u14 : Unit) h => V K 3 h 94 [] []) hd KJ)
  have hle := (Mo.le hd2).tr hle
  clear hd2
  refine v_loc [1, 2, 0] rfl ?_
  refine loop_ind hd (fun (s2 : Int32) h => V K 3 h 5 [(0, .ref t), (1, .int p1), (2, .int s2)] []) (fun s2 h x h2 hd hle0 ih3 ho4 => ?_)
  have hle := hle0.tr hle
  refine v_iload_n X dX12_put_2_5 2 2 rfl rfl ?_
  refine v_if_le (tgt := 41) X dX12_put_2_6 (by decide) (fun q => ?_) (fun q => ?_)
  · have hd := ite_t q hd
    exact v_loc [0, 1, 2] rfl (v_at (P := fun (e5 : Int32) h => V K 3 h 41 [(0, .ref t), (1, .int p1), (2, .int e5)] []) (lp_out hd ho4) KX)
  · have hd := ite_f q hd
    refine v_aload_n X dX12_put_2_9 0 0 rfl rfl ?_
    refine v_getR X hd fl_X12_9 dX12_put_2_10 (fun v6 hd => ?_)
    refine v_iload_n X dX12_put_2_13 2 2 rfl rfl ?_
    refine v_iconst (v := 1) X dX12_put_2_14 (by decide) ?_
    refine v_isub X dX12_put_2_15 ?_
    refine v_iald X hd dX12_put_2_16 (fun v7 hd => ?_)
    refine v_iload_n X dX12_put_2_17 1 1 rfl rfl ?_
    refine v_icmp_le (tgt := 41) X dX12_put_2_18 (by decide) (fun q => ?_) (fun q => ?_)
    · have hd := ite_t q hd
      exact v_loc [0, 1, 2] rfl (v_at (P := fun (e5 : Int32) h => V K 3 h 41 [(0, .ref t), (1, .int p1), (2, .int e5)] []) (lp_out hd ho4) KX)
    · have hd := ite_f q hd
      refine v_aload_n X dX12_put_2_21 0 0 rfl rfl ?_
      refine v_getR X hd fl_X12_9 dX12_put_2_22 (fun v8 hd => ?_)
      refine v_iload_n X dX12_put_2_25 2 2 rfl rfl ?_
      refine v_aload_n X dX12_put_2_26 0 0 rfl rfl ?_
      refine v_getR X hd fl_X12_9 dX12_put_2_27 (fun v9 hd => ?_)
      refine v_iload_n X dX12_put_2_30 2 2 rfl rfl ?_
      refine v_iconst (v := 1) X dX12_put_2_31 (by decide) ?_
      refine v_isub X dX12_put_2_32 ?_
      refine v_iald X hd dX12_put_2_33 (fun v10 hd => ?_)
      refine v_iast X hd dX12_put_2_34 (fun h hd => ?_)
      refine v_iincL (lv2 := fun v11 => [(2, .int v11), (0, .ref t), (1, .int p1)]) X hd dX12_put_2_35 2 rfl (by decide : Int32.ofInt (-1) = (-1)) (by decide) (fun v11 => rfl) (fun v11 hd => ?_)
      refine v_goto (tgt := 5) X dX12_put_2_38 (by decide) ?_
      exact v_loc [1, 2, 0] rfl (lp_in (P := fun (s2 : Int32) h => V K 3 h 5 [(0, .ref t), (1, .int p1), (2, .int s2)] []) hd ih3)
def dkwX12_put_2 : List UInt8 := [27, 96, 182, 0, 27, 177]
abbrev dktX12_put_2 : List UInt8 := dkwX12_put_2 ++ []
def dkwX12_put_1 : List UInt8 := [181, 0, 19, 167, 0, 26, 42, 16, 10, 28, 104, 27, 96, 182, 0, 23, 154, 0, 13, 42, 16, 10, 28, 104]
abbrev dktX12_put_1 : List UInt8 := dkwX12_put_1 ++ dktX12_put_2
def dkwX12_put_0 : List UInt8 := [27, 3, 16, 9, 184, 0, 15, 153, 0, 13, 28, 3, 16, 9, 184, 0, 15, 154, 0, 11, 42, 4]
abbrev dktX12_put_0 : List UInt8 := dkwX12_put_0 ++ dktX12_put_1
theorem dksX12_put_0 : cX12_put.data.toList.drop 0 = dktX12_put_0 := by decide +kernel
theorem dksX12_put_1 : cX12_put.data.toList.drop 22 = dktX12_put_1 := dk_seg dksX12_put_0 22 rfl rfl
theorem dksX12_put_2 : cX12_put.data.toList.drop 46 = dktX12_put_2 := dk_seg dksX12_put_1 24 rfl rfl
theorem dX12_put_0 : decode cX12_put 0 = .ok (.iload_n 1, 1) := dk_27 (dk_at dksX12_put_0 0 rfl rfl)
theorem dX12_put_1 : decode cX12_put 1 = .ok (.iconst 0, 1) := dk_3 (dk_at dksX12_put_0 1 rfl rfl)
theorem dX12_put_2 : decode cX12_put 2 = .ok (.bipush 9, 2) := dk_16 9 (dk_at dksX12_put_0 2 rfl rfl)
theorem dX12_put_4 : decode cX12_put 4 = .ok (.invokestatic 15, 3) := dk_184 0 15 (dk_at dksX12_put_0 4 rfl rfl)
theorem dX12_put_7 : decode cX12_put 7 = .ok (.ifCond .eq 13, 3) := dk_153 0 13 (dk_at dksX12_put_0 7 rfl rfl)
theorem dX12_put_10 : decode cX12_put 10 = .ok (.iload_n 2, 1) := dk_28 (dk_at dksX12_put_0 10 rfl rfl)
theorem dX12_put_11 : decode cX12_put 11 = .ok (.iconst 0, 1) := dk_3 (dk_at dksX12_put_0 11 rfl rfl)
theorem dX12_put_12 : decode cX12_put 12 = .ok (.bipush 9, 2) := dk_16 9 (dk_at dksX12_put_0 12 rfl rfl)
theorem dX12_put_14 : decode cX12_put 14 = .ok (.invokestatic 15, 3) := dk_184 0 15 (dk_at dksX12_put_0 14 rfl rfl)
theorem dX12_put_17 : decode cX12_put 17 = .ok (.ifCond .ne 11, 3) := dk_154 0 11 (dk_at dksX12_put_0 17 rfl rfl)
theorem dX12_put_20 : decode cX12_put 20 = .ok (.aload_n 0, 1) := dk_42 (dk_at dksX12_put_0 20 rfl rfl)
theorem dX12_put_21 : decode cX12_put 21 = .ok (.iconst 1, 1) := dk_4 (dk_at dksX12_put_0 21 rfl rfl)
theorem dX12_put_22 : decode cX12_put 22 = .ok (.putfield 19, 3) := dk_181 0 19 (dk_at dksX12_put_1 0 rfl rfl)
theorem dX12_put_25 : decode cX12_put 25 = .ok (.goto 26, 3) := dk_167 0 26 (dk_at dksX12_put_1 3 rfl rfl)
theorem dX12_put_28 : decode cX12_put 28 = .ok (.aload_n 0, 1) := dk_42 (dk_at dksX12_put_1 6 rfl rfl)
theorem dX12_put_29 : decode cX12_put 29 = .ok (.bipush 10, 2) := dk_16 10 (dk_at dksX12_put_1 7 rfl rfl)
theorem dX12_put_31 : decode cX12_put 31 = .ok (.iload_n 2, 1) := dk_28 (dk_at dksX12_put_1 9 rfl rfl)
theorem dX12_put_32 : decode cX12_put 32 = .ok (.imul, 1) := dk_104 (dk_at dksX12_put_1 10 rfl rfl)
theorem dX12_put_33 : decode cX12_put 33 = .ok (.iload_n 1, 1) := dk_27 (dk_at dksX12_put_1 11 rfl rfl)
theorem dX12_put_34 : decode cX12_put 34 = .ok (.iadd, 1) := dk_96 (dk_at dksX12_put_1 12 rfl rfl)
theorem dX12_put_35 : decode cX12_put 35 = .ok (.invokevirtual 23, 3) := dk_182 0 23 (dk_at dksX12_put_1 13 rfl rfl)
theorem dX12_put_38 : decode cX12_put 38 = .ok (.ifCond .ne 13, 3) := dk_154 0 13 (dk_at dksX12_put_1 16 rfl rfl)
theorem dX12_put_41 : decode cX12_put 41 = .ok (.aload_n 0, 1) := dk_42 (dk_at dksX12_put_1 19 rfl rfl)
theorem dX12_put_42 : decode cX12_put 42 = .ok (.bipush 10, 2) := dk_16 10 (dk_at dksX12_put_1 20 rfl rfl)
theorem dX12_put_44 : decode cX12_put 44 = .ok (.iload_n 2, 1) := dk_28 (dk_at dksX12_put_1 22 rfl rfl)
theorem dX12_put_45 : decode cX12_put 45 = .ok (.imul, 1) := dk_104 (dk_at dksX12_put_1 23 rfl rfl)
theorem dX12_put_46 : decode cX12_put 46 = .ok (.iload_n 1, 1) := dk_27 (dk_at dksX12_put_2 0 rfl rfl)
theorem dX12_put_47 : decode cX12_put 47 = .ok (.iadd, 1) := dk_96 (dk_at dksX12_put_2 1 rfl rfl)
theorem dX12_put_48 : decode cX12_put 48 = .ok (.invokevirtual 27, 3) := dk_182 0 27 (dk_at dksX12_put_2 2 rfl rfl)
theorem dX12_put_51 : decode cX12_put 51 = .ok (.return_, 1) := dk_177 (dk_at dksX12_put_2 5 rfl rfl)
theorem fp_X12_19 {nm : String} : gFp "BitingDoors$Cells" nm 19 [10] 4 .boolean := by
  intro args s hts hN ci hc
  simp only [List.mem_cons, List.not_mem_nil, or_false] at hc
  subst hc
  exact ⟨RX12, TX12, 5, "BitingDoors$Cells", gCl_X12, in_X12, by decide, Or.inl ⟨rfl, Or.inl (hts _ q942)⟩, fun _ h => h, rfl, fun D tys hK => gap_X12 hts hK⟩
theorem dn_X12_put : yX12_put.cls ≠ "java/lang/invoke/MethodHandle" ∧ yX12_put.cls ≠ "java/lang/invoke/VarHandle" ∧ (parseMethodDescriptor yX12_put.desc).map (fun d => d.parameters.length) = some 2 := by decide +kernel
noncomputable def M_X12_put (t : Nat) (p1 : Int32) (p2 : Int32) : Mo Unit := Mo.bind (chk [10] t) (fun _ => Mo.bind (M_X1_isIn p1 0 9) (fun v1 => Mo.bind ((cond v1 (Mo.bind (M_X1_isIn p2 0 9) (fun v3 => cond v3 (Mo.bind (M_X12_has t ((10 * p2) + p1)) (fun v4 => cond v4 (Mo.pure ()) (Mo.bind (M_X12_put_2 t ((10 * p2) + p1)) (fun v5 => Mo.pure ())))) (Mo.bind (pF [10] t 4 (.int (b2i true))) (fun _ => Mo.pure ())))) (Mo.bind (pF [10] t 4 (.int (b2i true))) (fun _ => Mo.pure ())) : Mo (Unit))) (fun u2 => Mo.pure ())))
set_option maxHeartbeats 4000000 in
theorem ct_X12_put (G : gG) (t : Nat) (p1 : Int32) (p2 : Int32) : gCt G yX12_put cX12_put 3 none 1 22 [.ref t, .int p1, .int p2] (M_X12_put t p1 p2) (fun _ : Unit => none) := by
  refine gCt.of (by decide) (Nat.le_of_ble_eq_true rfl) (fun K r hG X hd ho => ?_)
  subst hG
  have X : gX K cX12_put 3 "BitingDoors$Cells" "put" none 1 22 := X
  have hle : gLe (kh1 K) (kh1 K) := gLe.rf
  show V K 3 (kh0 K) 0 [(0, .ref t), (1, .int p1), (2, .int p2)] []
  generalize kh0 K = h at hd ⊢
  unfold M_X12_put at hd
  obtain ⟨-, hd⟩ := chk_some hd
  refine v_iload_n X dX12_put_0 1 1 rfl rfl ?_
  refine v_iconst (v := 0) X dX12_put_1 (by decide) ?_
  refine v_bipush (v := 9) X dX12_put_2 (by decide) ?_
  refine v_callSN (host := "BitingDoors") X hd hle (ct_X1_isIn _ p1 0 9) (List.mem_of_getElem? (i := 14) rfl) q689 q688 q109 dn_X1_isIn rfl ⟨by decide, by decide⟩ rfl (Nat.le_of_ble_eq_true rfl) dX12_put_4 (fun v1 h hd => ?_)
  show V K 3 h 7 [(0, .ref t), (1, .int p1), (2, .int p2)] [.int (b2i v1)]
  obtain ⟨u2, h1, hd, hd2⟩ := Mo.bind_some hd
  have KJ : V K 3 h1 51 [] [] := by
    clear hd
    have hd := hd2
    exact v_vret X hd ho dX12_put_51
  have hle := (Mo.le hd2).tr hle
  clear hd2
  refine v_ifZ_eq (tgt := 20) X dX12_put_7 (by decide) (fun q => ?_) (fun q => ?_)
  · have hd := cnd_f q hd
    refine v_aload_n X dX12_put_20 0 0 rfl rfl ?_
    refine v_iconst (v := 1) X dX12_put_21 (by decide) ?_
    refine v_put (v := .int (b2i true)) X hd fp_X12_19 (b2i_nar _) (fits_b2i _) dX12_put_22 (fun h hd => ?_)
    refine v_goto (tgt := 51) X dX12_put_25 (by decide) ?_
    exact v_loc [] rfl (v_at (P := fun (u2 : Unit) h => V K 3 h 51 [] []) hd KJ)
  · have hd := cnd_t q hd
    refine v_iload_n X dX12_put_10 2 2 rfl rfl ?_
    refine v_iconst (v := 0) X dX12_put_11 (by decide) ?_
    refine v_bipush (v := 9) X dX12_put_12 (by decide) ?_
    refine v_callSN (host := "BitingDoors") X hd hle (ct_X1_isIn _ p2 0 9) (List.mem_of_getElem? (i := 14) rfl) q689 q688 q109 dn_X1_isIn rfl ⟨by decide, by decide⟩ rfl (Nat.le_of_ble_eq_true rfl) dX12_put_14 (fun v3 h hd => ?_)
    show V K 3 h 17 [(0, .ref t), (1, .int p1), (2, .int p2)] [.int (b2i v3)]
    refine v_ifZ_ne (tgt := 28) X dX12_put_17 (by decide) (fun q => ?_) (fun q => ?_)
    · have hd := cnd_t q hd
      refine v_aload_n X dX12_put_28 0 0 rfl rfl ?_
      refine v_bipush (v := 10) X dX12_put_29 (by decide) ?_
      refine v_iload_n X dX12_put_31 2 2 rfl rfl ?_
      refine v_imul X dX12_put_32 ?_
      refine v_iload_n X dX12_put_33 1 1 rfl rfl ?_
      refine v_iadd X dX12_put_34 ?_
      refine v_callV X hd hle (ct_X12_has _ t ((10 * p2) + p1)) gCl_X12 (lw_V q964 q965 q966 q126 q967) ⟨rfl, dn_X12_has⟩ rfl ⟨by decide, by decide⟩ rfl (Nat.le_of_ble_eq_true rfl) dX12_put_35 (fun v4 h hd => ?_)
      show V K 3 h 38 [(0, .ref t), (1, .int p1), (2, .int p2)] [.int (b2i v4)]
      refine v_ifZ_ne (tgt := 51) X dX12_put_38 (by decide) (fun q => ?_) (fun q => ?_)
      · have hd := cnd_t q hd
        exact v_loc [] rfl (v_at (P := fun (u2 : Unit) h => V K 3 h 51 [] []) hd KJ)
      · have hd := cnd_f q hd
        refine v_aload_n X dX12_put_41 0 0 rfl rfl ?_
        refine v_bipush (v := 10) X dX12_put_42 (by decide) ?_
        refine v_iload_n X dX12_put_44 2 2 rfl rfl ?_
        refine v_imul X dX12_put_45 ?_
        refine v_iload_n X dX12_put_46 1 1 rfl rfl ?_
        refine v_iadd X dX12_put_47 ?_
        refine v_callV X hd hle (ct_X12_put_2 _ t ((10 * p2) + p1)) gCl_X12 (lw_V q968 q970 qs10 q126 q971) ⟨rfl, dn_X12_put_2⟩ rfl ⟨by decide, by decide⟩ rfl (Nat.le_of_ble_eq_true rfl) dX12_put_48 (fun v5 h hd => ?_)
        show V K 3 h 51 [(0, .ref t), (1, .int p1), (2, .int p2)] []
        exact v_loc [] rfl (v_at (P := fun (u2 : Unit) h => V K 3 h 51 [] []) hd KJ)
    · have hd := cnd_f q hd
      refine v_aload_n X dX12_put_20 0 0 rfl rfl ?_
      refine v_iconst (v := 1) X dX12_put_21 (by decide) ?_
      refine v_put (v := .int (b2i true)) X hd fp_X12_19 (b2i_nar _) (fits_b2i _) dX12_put_22 (fun h hd => ?_)
      refine v_goto (tgt := 51) X dX12_put_25 (by decide) ?_
      exact v_loc [] rfl (v_at (P := fun (u2 : Unit) h => V K 3 h 51 [] []) hd KJ)
def dkwX12_shared_1 : List UInt8 := [96, 172]
abbrev dktX12_shared_1 : List UInt8 := dkwX12_shared_1 ++ []
def dkwX12_shared_0 : List UInt8 := [42, 180, 0, 35, 43, 180, 0, 35, 127, 184, 0, 42, 42, 180, 0, 39, 43, 180, 0, 39, 127, 184, 0, 42]
abbrev dktX12_shared_0 : List UInt8 := dkwX12_shared_0 ++ dktX12_shared_1
theorem dksX12_shared_0 : cX12_shared.data.toList.drop 0 = dktX12_shared_0 := by decide +kernel
theorem dksX12_shared_1 : cX12_shared.data.toList.drop 24 = dktX12_shared_1 := dk_seg dksX12_shared_0 24 rfl rfl
theorem dX12_shared_0 : decode cX12_shared 0 = .ok (.aload_n 0, 1) := dk_42 (dk_at dksX12_shared_0 0 rfl rfl)
theorem dX12_shared_1 : decode cX12_shared 1 = .ok (.getfield 35, 3) := dk_180 0 35 (dk_at dksX12_shared_0 1 rfl rfl)
theorem dX12_shared_4 : decode cX12_shared 4 = .ok (.aload_n 1, 1) := dk_43 (dk_at dksX12_shared_0 4 rfl rfl)
theorem dX12_shared_5 : decode cX12_shared 5 = .ok (.getfield 35, 3) := dk_180 0 35 (dk_at dksX12_shared_0 5 rfl rfl)
theorem dX12_shared_8 : decode cX12_shared 8 = .ok (.land, 1) := dk_127 (dk_at dksX12_shared_0 8 rfl rfl)
theorem dX12_shared_9 : decode cX12_shared 9 = .ok (.invokestatic 42, 3) := dk_184 0 42 (dk_at dksX12_shared_0 9 rfl rfl)
theorem dX12_shared_12 : decode cX12_shared 12 = .ok (.aload_n 0, 1) := dk_42 (dk_at dksX12_shared_0 12 rfl rfl)
theorem dX12_shared_13 : decode cX12_shared 13 = .ok (.getfield 39, 3) := dk_180 0 39 (dk_at dksX12_shared_0 13 rfl rfl)
theorem dX12_shared_16 : decode cX12_shared 16 = .ok (.aload_n 1, 1) := dk_43 (dk_at dksX12_shared_0 16 rfl rfl)
theorem dX12_shared_17 : decode cX12_shared 17 = .ok (.getfield 39, 3) := dk_180 0 39 (dk_at dksX12_shared_0 17 rfl rfl)
theorem dX12_shared_20 : decode cX12_shared 20 = .ok (.land, 1) := dk_127 (dk_at dksX12_shared_0 20 rfl rfl)
theorem dX12_shared_21 : decode cX12_shared 21 = .ok (.invokestatic 42, 3) := dk_184 0 42 (dk_at dksX12_shared_0 21 rfl rfl)
theorem dX12_shared_24 : decode cX12_shared 24 = .ok (.iadd, 1) := dk_96 (dk_at dksX12_shared_1 0 rfl rfl)
theorem dX12_shared_25 : decode cX12_shared 25 = .ok (.ireturn, 1) := dk_172 (dk_at dksX12_shared_1 1 rfl rfl)
theorem dn_X12_shared : yX12_shared.cls ≠ "java/lang/invoke/MethodHandle" ∧ yX12_shared.cls ≠ "java/lang/invoke/VarHandle" ∧ (parseMethodDescriptor yX12_shared.desc).map (fun d => d.parameters.length) = some 1 := by decide +kernel
noncomputable def M_X12_shared (t : Nat) (p1 : Nat) : Mo Int32 := Mo.bind (chk [10] t) (fun _ => Mo.bind (gL [10] t 2) (fun v1 => Mo.bind (gL [10] p1 2) (fun v2 => Mo.bind (M_J7_bitCount (v1 &&& v2)) (fun v3 => Mo.bind (gL [10] t 3) (fun v4 => Mo.bind (gL [10] p1 3) (fun v5 => Mo.bind (M_J7_bitCount (v4 &&& v5)) (fun v6 => Mo.pure (v3 + v6))))))))
set_option maxHeartbeats 4000000 in
theorem ct_X12_shared (G : gG) (t : Nat) (p1 : Nat) : gCt G yX12_shared cX12_shared 2 (some .int) 1 21 [.ref t, .ref p1] (M_X12_shared t p1) (fun x : Int32 => some (.int x)) := by
  refine gCt.of (by decide) (Nat.le_of_ble_eq_true rfl) (fun K r hG X hd ho => ?_)
  subst hG
  have X : gX K cX12_shared 2 "BitingDoors$Cells" "shared" (some .int) 1 21 := X
  have hle : gLe (kh1 K) (kh1 K) := gLe.rf
  show V K 2 (kh0 K) 0 [(0, .ref t), (1, .ref p1)] []
  generalize kh0 K = h at hd ⊢
  unfold M_X12_shared at hd
  obtain ⟨-, hd⟩ := chk_some hd
  refine v_aload_n X dX12_shared_0 0 0 rfl rfl ?_
  refine v_getL X hd fl_X12_35 dX12_shared_1 (fun v1 hd => ?_)
  refine v_aload_n X dX12_shared_4 1 1 rfl rfl ?_
  refine v_getL X hd fl_X12_35 dX12_shared_5 (fun v2 hd => ?_)
  refine v_land X dX12_shared_8 ?_
  refine v_callS X hd hle (ct_J7_bitCount _ (v1 &&& v2)) (lw_S q1000 q1001 q128 q1002) dn_J7_bitCount rfl ⟨by decide, by decide⟩ rfl (Nat.le_of_ble_eq_true rfl) dX12_shared_9 (fun v3 h hd => ?_)
  show V K 2 h 12 [(0, .ref t), (1, .ref p1)] [.int v3]
  refine v_aload_n X dX12_shared_12 0 0 rfl rfl ?_
  refine v_getL X hd fl_X12_39 dX12_shared_13 (fun v4 hd => ?_)
  refine v_aload_n X dX12_shared_16 1 1 rfl rfl ?_
  refine v_getL X hd fl_X12_39 dX12_shared_17 (fun v5 hd => ?_)
  refine v_land X dX12_shared_20 ?_
  refine v_callS X hd hle (ct_J7_bitCount _ (v4 &&& v5)) (lw_S q1000 q1001 q128 q1002) dn_J7_bitCount rfl ⟨by decide, by decide⟩ rfl (Nat.le_of_ble_eq_true rfl) dX12_shared_21 (fun v6 h hd => ?_)
  show V K 2 h 24 [(0, .ref t), (1, .ref p1)] [.int v6, .int v3]
  refine v_iadd X dX12_shared_24 ?_
  exact v_iret X hd ho dX12_shared_25
def dkwX12_add_1 : List UInt8 := [43, 180, 0, 9, 28, 46, 182, 0, 27, 132, 2, 1, 167, 255, 222, 177]
abbrev dktX12_add_1 : List UInt8 := dkwX12_add_1 ++ []
def dkwX12_add_0 : List UInt8 := [3, 61, 28, 43, 180, 0, 31, 162, 0, 32, 42, 43, 180, 0, 9, 28, 46, 182, 0, 23, 154, 0, 13, 42]
abbrev dktX12_add_0 : List UInt8 := dkwX12_add_0 ++ dktX12_add_1
theorem dksX12_add_0 : cX12_add.data.toList.drop 0 = dktX12_add_0 := by decide +kernel
theorem dksX12_add_1 : cX12_add.data.toList.drop 24 = dktX12_add_1 := dk_seg dksX12_add_0 24 rfl rfl
theorem dX12_add_0 : decode cX12_add 0 = .ok (.iconst 0, 1) := dk_3 (dk_at dksX12_add_0 0 rfl rfl)
theorem dX12_add_1 : decode cX12_add 1 = .ok (.istore_n 2, 1) := dk_61 (dk_at dksX12_add_0 1 rfl rfl)
theorem dX12_add_2 : decode cX12_add 2 = .ok (.iload_n 2, 1) := dk_28 (dk_at dksX12_add_0 2 rfl rfl)
theorem dX12_add_3 : decode cX12_add 3 = .ok (.aload_n 1, 1) := dk_43 (dk_at dksX12_add_0 3 rfl rfl)
theorem dX12_add_4 : decode cX12_add 4 = .ok (.getfield 31, 3) := dk_180 0 31 (dk_at dksX12_add_0 4 rfl rfl)
theorem dX12_add_7 : decode cX12_add 7 = .ok (.if_icmp .ge 32, 3) := dk_162 0 32 (dk_at dksX12_add_0 7 rfl rfl)
theorem dX12_add_10 : decode cX12_add 10 = .ok (.aload_n 0, 1) := dk_42 (dk_at dksX12_add_0 10 rfl rfl)
theorem dX12_add_11 : decode cX12_add 11 = .ok (.aload_n 1, 1) := dk_43 (dk_at dksX12_add_0 11 rfl rfl)
theorem dX12_add_12 : decode cX12_add 12 = .ok (.getfield 9, 3) := dk_180 0 9 (dk_at dksX12_add_0 12 rfl rfl)
theorem dX12_add_15 : decode cX12_add 15 = .ok (.iload_n 2, 1) := dk_28 (dk_at dksX12_add_0 15 rfl rfl)
theorem dX12_add_16 : decode cX12_add 16 = .ok (.iaload, 1) := dk_46 (dk_at dksX12_add_0 16 rfl rfl)
theorem dX12_add_17 : decode cX12_add 17 = .ok (.invokevirtual 23, 3) := dk_182 0 23 (dk_at dksX12_add_0 17 rfl rfl)
theorem dX12_add_20 : decode cX12_add 20 = .ok (.ifCond .ne 13, 3) := dk_154 0 13 (dk_at dksX12_add_0 20 rfl rfl)
theorem dX12_add_23 : decode cX12_add 23 = .ok (.aload_n 0, 1) := dk_42 (dk_at dksX12_add_0 23 rfl rfl)
theorem dX12_add_24 : decode cX12_add 24 = .ok (.aload_n 1, 1) := dk_43 (dk_at dksX12_add_1 0 rfl rfl)
theorem dX12_add_25 : decode cX12_add 25 = .ok (.getfield 9, 3) := dk_180 0 9 (dk_at dksX12_add_1 1 rfl rfl)
theorem dX12_add_28 : decode cX12_add 28 = .ok (.iload_n 2, 1) := dk_28 (dk_at dksX12_add_1 4 rfl rfl)
theorem dX12_add_29 : decode cX12_add 29 = .ok (.iaload, 1) := dk_46 (dk_at dksX12_add_1 5 rfl rfl)
theorem dX12_add_30 : decode cX12_add 30 = .ok (.invokevirtual 27, 3) := dk_182 0 27 (dk_at dksX12_add_1 6 rfl rfl)
theorem dX12_add_33 : decode cX12_add 33 = .ok (.iinc 2 1, 3) := dk_132 2 1 (dk_at dksX12_add_1 9 rfl rfl)
theorem dX12_add_36 : decode cX12_add 36 = .ok (.goto (-34), 3) := dk_167 255 222 (dk_at dksX12_add_1 12 rfl rfl)
theorem dX12_add_39 : decode cX12_add 39 = .ok (.return_, 1) := dk_177 (dk_at dksX12_add_1 15 rfl rfl)
theorem dn_X12_add : yX12_add.cls ≠ "java/lang/invoke/MethodHandle" ∧ yX12_add.cls ≠ "java/lang/invoke/VarHandle" ∧ (parseMethodDescriptor yX12_add.desc).map (fun d => d.parameters.length) = some 1 := by decide +kernel
noncomputable def M_X12_add (t : Nat) (p1 : Nat) : Mo Unit := Mo.bind (chk [10] t) (fun _ => Mo.bind (Mo.loop (S := Int32) (E := Unit) (fun s1 => Mo.bind (gI [10] p1 1) (fun v5 => if v5 ≤ s1 then Mo.pure (Sum.inr ()) else Mo.bind (gR [10] p1 0) (fun v6 => Mo.bind (aldI 0 v6 s1) (fun v7 => Mo.bind (M_X12_has t v7) (fun v8 => Mo.bind ((cond v8 (Mo.pure ()) (Mo.bind (gR [10] p1 0) (fun v11 => Mo.bind (aldI 0 v11 s1) (fun v12 => Mo.bind (M_X12_put_2 t v12) (fun v13 => Mo.pure ())))) : Mo (Unit))) (fun u9 => Mo.lv (s1 + 1) (fun v10 => Mo.pure (Sum.inl v10)))))))) 0) (fun e4 => Mo.pure ()))
set_option maxHeartbeats 4000000 in
theorem ct_X12_add (G : gG) (t : Nat) (p1 : Nat) : gCt G yX12_add cX12_add 3 none 1 22 [.ref t, .ref p1] (M_X12_add t p1) (fun _ : Unit => none) := by
  refine gCt.of (by decide) (Nat.le_of_ble_eq_true rfl) (fun K r hG X hd ho => ?_)
  subst hG
  have X : gX K cX12_add 3 "BitingDoors$Cells" "add" none 1 22 := X
  have hle : gLe (kh1 K) (kh1 K) := gLe.rf
  show V K 3 (kh0 K) 0 [(0, .ref t), (1, .ref p1)] []
  generalize kh0 K = h at hd ⊢
  unfold M_X12_add at hd
  obtain ⟨-, hd⟩ := chk_some hd
  refine v_iconst (v := 0) X dX12_add_0 (by decide) ?_
  refine v_istore_n (lv2 := [(2, .int 0), (0, .ref t), (1, .ref p1)]) X dX12_add_1 2 rfl (by decide) rfl ?_
  obtain ⟨e4, h1, hd, hd2⟩ := Mo.bind_some hd
  have KX : V K 3 h1 39 [] [] := by
    clear hd
    have hd := hd2
    exact v_vret X hd ho dX12_add_39
  have hle := (Mo.le hd2).tr hle
  clear hd2
  refine v_loc [1, 2, 0] rfl ?_
  refine loop_ind hd (fun (s1 : Int32) h => V K 3 h 2 [(0, .ref t), (1, .ref p1), (2, .int s1)] []) (fun s1 h x h2 hd hle0 ih2 ho3 => ?_)
  have hle := hle0.tr hle
  refine v_iload_n X dX12_add_2 2 2 rfl rfl ?_
  refine v_aload_n X dX12_add_3 1 1 rfl rfl ?_
  refine v_getI X hd fl_X12_31 dX12_add_4 (fun v5 hd => ?_)
  refine v_icmp_ge (tgt := 39) X dX12_add_7 (by decide) (fun q => ?_) (fun q => ?_)
  · have hd := ite_t q hd
    exact v_loc [] rfl (v_at (P := fun (e4 : Unit) h => V K 3 h 39 [] []) (lp_out hd ho3) KX)
  · have hd := ite_f q hd
    refine v_aload_n X dX12_add_10 0 0 rfl rfl ?_
    refine v_aload_n X dX12_add_11 1 1 rfl rfl ?_
    refine v_getR X hd fl_X12_9 dX12_add_12 (fun v6 hd => ?_)
    refine v_iload_n X dX12_add_15 2 2 rfl rfl ?_
    refine v_iald X hd dX12_add_16 (fun v7 hd => ?_)
    refine v_callV X hd hle (ct_X12_has _ t v7) gCl_X12 (lw_V q964 q965 q966 q126 q967) ⟨rfl, dn_X12_has⟩ rfl ⟨by decide, by decide⟩ rfl (Nat.le_of_ble_eq_true rfl) dX12_add_17 (fun v8 h hd => ?_)
    show V K 3 h 20 [(0, .ref t), (1, .ref p1), (2, .int s1)] [.int (b2i v8)]
    obtain ⟨u9, h1, hd, hd2⟩ := Mo.bind_some hd
    have KJ : V K 3 h1 33 [(0, .ref t), (1, .ref p1), (2, .int s1)] [] := by
      clear hd
      have hd := hd2
      refine v_iincL (lv2 := fun v10 => [(2, .int v10), (0, .ref t), (1, .ref p1)]) X hd dX12_add_33 2 rfl (by decide : Int32.ofInt 1 = 1) (by decide) (fun v10 => rfl) (fun v10 hd => ?_)
      refine v_goto (tgt := 2) X dX12_add_36 (by decide) ?_
      exact v_loc [1, 2, 0] rfl (lp_in (P := fun (s1 : Int32) h => V K 3 h 2 [(0, .ref t), (1, .ref p1), (2, .int s1)] []) hd ih2)
    have hle := (Mo.le hd2).tr hle
    clear hd2
    refine v_ifZ_ne (tgt := 33) X dX12_add_20 (by decide) (fun q => ?_) (fun q => ?_)
    · have hd := cnd_t q hd
      exact v_loc [0, 1, 2] rfl (v_at (P := fun (u9 : Unit) h => V K 3 h 33 [(0, .ref t), (1, .ref p1), (2, .int s1)] []) hd KJ)
    · have hd := cnd_f q hd
      refine v_aload_n X dX12_add_23 0 0 rfl rfl ?_
      refine v_aload_n X dX12_add_24 1 1 rfl rfl ?_
      refine v_getR X hd fl_X12_9 dX12_add_25 (fun v11 hd => ?_)
      refine v_iload_n X dX12_add_28 2 2 rfl rfl ?_
      refine v_iald X hd dX12_add_29 (fun v12 hd => ?_)
      refine v_callV X hd hle (ct_X12_put_2 _ t v12) gCl_X12 (lw_V q968 q970 qs10 q126 q971) ⟨rfl, dn_X12_put_2⟩ rfl ⟨by decide, by decide⟩ rfl (Nat.le_of_ble_eq_true rfl) dX12_add_30 (fun v13 h hd => ?_)
      show V K 3 h 33 [(0, .ref t), (1, .ref p1), (2, .int s1)] []
      exact v_loc [0, 1, 2] rfl (v_at (P := fun (u9 : Unit) h => V K 3 h 33 [(0, .ref t), (1, .ref p1), (2, .int s1)] []) hd KJ)
def dkwX12_get_1 : List UInt8 := [172]
abbrev dktX12_get_1 : List UInt8 := dkwX12_get_1 ++ []
def dkwX12_get_0 : List UInt8 := [27, 3, 42, 180, 0, 31, 4, 100, 184, 0, 15, 153, 0, 12, 42, 180, 0, 9, 27, 46, 167, 0, 4, 2]
abbrev dktX12_get_0 : List UInt8 := dkwX12_get_0 ++ dktX12_get_1
theorem dksX12_get_0 : cX12_get.data.toList.drop 0 = dktX12_get_0 := by decide +kernel
theorem dksX12_get_1 : cX12_get.data.toList.drop 24 = dktX12_get_1 := dk_seg dksX12_get_0 24 rfl rfl
theorem dX12_get_0 : decode cX12_get 0 = .ok (.iload_n 1, 1) := dk_27 (dk_at dksX12_get_0 0 rfl rfl)
theorem dX12_get_1 : decode cX12_get 1 = .ok (.iconst 0, 1) := dk_3 (dk_at dksX12_get_0 1 rfl rfl)
theorem dX12_get_2 : decode cX12_get 2 = .ok (.aload_n 0, 1) := dk_42 (dk_at dksX12_get_0 2 rfl rfl)
theorem dX12_get_3 : decode cX12_get 3 = .ok (.getfield 31, 3) := dk_180 0 31 (dk_at dksX12_get_0 3 rfl rfl)
theorem dX12_get_6 : decode cX12_get 6 = .ok (.iconst 1, 1) := dk_4 (dk_at dksX12_get_0 6 rfl rfl)
theorem dX12_get_7 : decode cX12_get 7 = .ok (.isub, 1) := dk_100 (dk_at dksX12_get_0 7 rfl rfl)
theorem dX12_get_8 : decode cX12_get 8 = .ok (.invokestatic 15, 3) := dk_184 0 15 (dk_at dksX12_get_0 8 rfl rfl)
theorem dX12_get_11 : decode cX12_get 11 = .ok (.ifCond .eq 12, 3) := dk_153 0 12 (dk_at dksX12_get_0 11 rfl rfl)
theorem dX12_get_14 : decode cX12_get 14 = .ok (.aload_n 0, 1) := dk_42 (dk_at dksX12_get_0 14 rfl rfl)
theorem dX12_get_15 : decode cX12_get 15 = .ok (.getfield 9, 3) := dk_180 0 9 (dk_at dksX12_get_0 15 rfl rfl)
theorem dX12_get_18 : decode cX12_get 18 = .ok (.iload_n 1, 1) := dk_27 (dk_at dksX12_get_0 18 rfl rfl)
theorem dX12_get_19 : decode cX12_get 19 = .ok (.iaload, 1) := dk_46 (dk_at dksX12_get_0 19 rfl rfl)
theorem dX12_get_20 : decode cX12_get 20 = .ok (.goto 4, 3) := dk_167 0 4 (dk_at dksX12_get_0 20 rfl rfl)
theorem dX12_get_23 : decode cX12_get 23 = .ok (.iconst (-1), 1) := dk_2 (dk_at dksX12_get_0 23 rfl rfl)
theorem dX12_get_24 : decode cX12_get 24 = .ok (.ireturn, 1) := dk_172 (dk_at dksX12_get_1 0 rfl rfl)
theorem dn_X12_get : yX12_get.cls ≠ "java/lang/invoke/MethodHandle" ∧ yX12_get.cls ≠ "java/lang/invoke/VarHandle" ∧ (parseMethodDescriptor yX12_get.desc).map (fun d => d.parameters.length) = some 1 := by decide +kernel
noncomputable def M_X12_get (t : Nat) (p1 : Int32) : Mo Int32 := Mo.bind (chk [10] t) (fun _ => Mo.bind (gI [10] t 1) (fun v1 => Mo.bind (M_X1_isIn p1 0 (v1 - 1)) (fun v2 => Mo.bind ((cond v2 (Mo.bind (gR [10] t 0) (fun v4 => Mo.bind (aldI 0 v4 p1) (fun v5 => Mo.pure v5))) (Mo.pure (-1)) : Mo (Int32))) (fun u3 => Mo.pure u3))))
set_option maxHeartbeats 4000000 in
theorem ct_X12_get (G : gG) (t : Nat) (p1 : Int32) : gCt G yX12_get cX12_get 2 (some .int) 1 22 [.ref t, .int p1] (M_X12_get t p1) (fun x : Int32 => some (.int x)) := by
  refine gCt.of (by decide) (Nat.le_of_ble_eq_true rfl) (fun K r hG X hd ho => ?_)
  subst hG
  have X : gX K cX12_get 2 "BitingDoors$Cells" "get" (some .int) 1 22 := X
  have hle : gLe (kh1 K) (kh1 K) := gLe.rf
  show V K 2 (kh0 K) 0 [(0, .ref t), (1, .int p1)] []
  generalize kh0 K = h at hd ⊢
  unfold M_X12_get at hd
  obtain ⟨-, hd⟩ := chk_some hd
  refine v_iload_n X dX12_get_0 1 1 rfl rfl ?_
  refine v_iconst (v := 0) X dX12_get_1 (by decide) ?_
  refine v_aload_n X dX12_get_2 0 0 rfl rfl ?_
  refine v_getI X hd fl_X12_31 dX12_get_3 (fun v1 hd => ?_)
  refine v_iconst (v := 1) X dX12_get_6 (by decide) ?_
  refine v_isub X dX12_get_7 ?_
  refine v_callSN (host := "BitingDoors") X hd hle (ct_X1_isIn _ p1 0 (v1 - 1)) (List.mem_of_getElem? (i := 14) rfl) q689 q688 q109 dn_X1_isIn rfl ⟨by decide, by decide⟩ rfl (Nat.le_of_ble_eq_true rfl) dX12_get_8 (fun v2 h hd => ?_)
  show V K 2 h 11 [(0, .ref t), (1, .int p1)] [.int (b2i v2)]
  obtain ⟨u3, h1, hd, hd2⟩ := Mo.bind_some hd
  have KJ : V K 2 h1 24 [] [.int u3] := by
    clear hd
    have hd := hd2
    exact v_iret X hd ho dX12_get_24
  have hle := (Mo.le hd2).tr hle
  clear hd2
  refine v_ifZ_eq (tgt := 23) X dX12_get_11 (by decide) (fun q => ?_) (fun q => ?_)
  · have hd := cnd_f q hd
    refine v_iconst (v := (-1)) X dX12_get_23 (by decide) ?_
    exact v_loc [] rfl (v_at (P := fun (u3 : Int32) h => V K 2 h 24 [] [.int u3]) hd KJ)
  · have hd := cnd_t q hd
    refine v_aload_n X dX12_get_14 0 0 rfl rfl ?_
    refine v_getR X hd fl_X12_9 dX12_get_15 (fun v4 hd => ?_)
    refine v_iload_n X dX12_get_18 1 1 rfl rfl ?_
    refine v_iald X hd dX12_get_19 (fun v5 hd => ?_)
    refine v_goto (tgt := 24) X dX12_get_20 (by decide) ?_
    exact v_loc [] rfl (v_at (P := fun (u3 : Int32) h => V K 2 h 24 [] [.int u3]) hd KJ)
