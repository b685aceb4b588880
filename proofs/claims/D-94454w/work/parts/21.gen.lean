set_option maxRecDepth 100000
def dkwX1_at_0 : List UInt8 := [42, 180, 0, 90, 180, 0, 243, 180, 0, 252, 27, 50, 176]
abbrev dktX1_at_0 : List UInt8 := dkwX1_at_0 ++ []
theorem dksX1_at_0 : cX1_at.data.toList.drop 0 = dktX1_at_0 := by decide +kernel
theorem dX1_at_0 : decode cX1_at 0 = .ok (.aload_n 0, 1) := dk_42 (dk_at dksX1_at_0 0 rfl rfl)
theorem dX1_at_1 : decode cX1_at 1 = .ok (.getfield 90, 3) := dk_180 0 90 (dk_at dksX1_at_0 1 rfl rfl)
theorem dX1_at_4 : decode cX1_at 4 = .ok (.getfield 243, 3) := dk_180 0 243 (dk_at dksX1_at_0 4 rfl rfl)
theorem dX1_at_7 : decode cX1_at 7 = .ok (.getfield 252, 3) := dk_180 0 252 (dk_at dksX1_at_0 7 rfl rfl)
theorem dX1_at_10 : decode cX1_at 10 = .ok (.iload_n 1, 1) := dk_27 (dk_at dksX1_at_0 10 rfl rfl)
theorem dX1_at_11 : decode cX1_at 11 = .ok (.aaload, 1) := dk_50 (dk_at dksX1_at_0 11 rfl rfl)
theorem dX1_at_12 : decode cX1_at 12 = .ok (.areturn, 1) := dk_176 (dk_at dksX1_at_0 12 rfl rfl)
theorem fl_X1_243 : gFl "BitingDoors" 243 [2] 0 := by
  intro args s hts hN ci hc
  simp only [List.mem_cons, List.not_mem_nil, or_false] at hc
  subst hc
  exact ⟨RX3, TX3, 6, "BitingDoors$Walker", gCl_X3, in_X3, by decide, Or.inr ⟨"BitingDoors", va_Nw.use rfl (hN.1 ("BitingDoors", 243, "BitingDoors$Walker", "house", "LBitingDoors$House;", "BitingDoors") (List.mem_of_getElem? (i := 7) rfl))⟩, fun _ h => h⟩
theorem fl_X1_252 : gFl "BitingDoors" 252 [3] 2 := by
  intro args s hts hN ci hc
  simp only [List.mem_cons, List.not_mem_nil, or_false] at hc
  subst hc
  exact ⟨RX4, TX4, 9, "BitingDoors$House", gCl_X4, in_X4, by decide, Or.inr ⟨"BitingDoors", va_Nw.use rfl (hN.1 ("BitingDoors", 252, "BitingDoors$House", "doors", "[LBitingDoors$Door;", "BitingDoors") (List.mem_of_getElem? (i := 1) rfl))⟩, fun _ h => h⟩
theorem fl_X1_90 : gFl "BitingDoors" 90 [0] 9 := by
  intro args s hts hN ci hc
  simp only [List.mem_cons, List.not_mem_nil, or_false] at hc
  subst hc
  exact ⟨RX1, TX1, 46, "BitingDoors", gCl_X1, in_X1, by decide, Or.inl (hts _ q508), fun _ h => h⟩
theorem dn_X1_at : yX1_at.cls ≠ "java/lang/invoke/MethodHandle" ∧ yX1_at.cls ≠ "java/lang/invoke/VarHandle" ∧ (parseMethodDescriptor yX1_at.desc).map (fun d => d.parameters.length) = some 1 := by decide +kernel
noncomputable def M_X1_at (t : Nat) (p1 : Int32) : Mo Nat := Mo.bind (chk [0] t) (fun _ => Mo.bind (gR [0] t 9) (fun v1 => Mo.bind (gR [2] v1 0) (fun v2 => Mo.bind (gR [3] v2 2) (fun v3 => Mo.bind (aldR 5 v3 p1) (fun v4 => Mo.pure v4)))))
set_option maxHeartbeats 4000000 in
theorem ct_X1_at (G : gG) (t : Nat) (p1 : Int32) : gCt G yX1_at cX1_at 2 (some (.object "BitingDoors$Door")) 0 0 [.ref t, .int p1] (M_X1_at t p1) (fun x : Nat => some (.ref x)) := by
  refine gCt.of (by decide) (Nat.le_of_ble_eq_true rfl) (fun K r hG X hd ho => ?_)
  subst hG
  have X : gX K cX1_at 2 "BitingDoors" "at" (some (.object "BitingDoors$Door")) 0 0 := X
  have hle : gLe (kh1 K) (kh1 K) := gLe.rf
  show V K 2 (kh0 K) 0 [(0, .ref t), (1, .int p1)] []
  generalize kh0 K = h at hd ⊢
  unfold M_X1_at at hd
  obtain ⟨-, hd⟩ := chk_some hd
  refine v_aload_n X dX1_at_0 0 0 rfl rfl ?_
  refine v_getR X hd fl_X1_90 dX1_at_1 (fun v1 hd => ?_)
  refine v_getR X hd fl_X1_243 dX1_at_4 (fun v2 hd => ?_)
  refine v_getR X hd fl_X1_252 dX1_at_7 (fun v3 hd => ?_)
  refine v_iload_n X dX1_at_10 1 1 rfl rfl ?_
  refine v_aldR X hd 5 rfl (by decide) (by decide) dX1_at_11 (fun v4 hd => ?_)
  exact v_aret X rfl (Or.inl ⟨_, rfl⟩) hd ho dX1_at_12
def dkwX1_isDoor_0 : List UInt8 := [27, 3, 42, 180, 0, 90, 180, 0, 243, 180, 0, 247, 4, 100, 184, 0, 248, 172]
abbrev dktX1_isDoor_0 : List UInt8 := dkwX1_isDoor_0 ++ []
theorem dksX1_isDoor_0 : cX1_isDoor.data.toList.drop 0 = dktX1_isDoor_0 := by decide +kernel
theorem dX1_isDoor_0 : decode cX1_isDoor 0 = .ok (.iload_n 1, 1) := dk_27 (dk_at dksX1_isDoor_0 0 rfl rfl)
theorem dX1_isDoor_1 : decode cX1_isDoor 1 = .ok (.iconst 0, 1) := dk_3 (dk_at dksX1_isDoor_0 1 rfl rfl)
theorem dX1_isDoor_2 : decode cX1_isDoor 2 = .ok (.aload_n 0, 1) := dk_42 (dk_at dksX1_isDoor_0 2 rfl rfl)
theorem dX1_isDoor_3 : decode cX1_isDoor 3 = .ok (.getfield 90, 3) := dk_180 0 90 (dk_at dksX1_isDoor_0 3 rfl rfl)
theorem dX1_isDoor_6 : decode cX1_isDoor 6 = .ok (.getfield 243, 3) := dk_180 0 243 (dk_at dksX1_isDoor_0 6 rfl rfl)
theorem dX1_isDoor_9 : decode cX1_isDoor 9 = .ok (.getfield 247, 3) := dk_180 0 247 (dk_at dksX1_isDoor_0 9 rfl rfl)
theorem dX1_isDoor_12 : decode cX1_isDoor 12 = .ok (.iconst 1, 1) := dk_4 (dk_at dksX1_isDoor_0 12 rfl rfl)
theorem dX1_isDoor_13 : decode cX1_isDoor 13 = .ok (.isub, 1) := dk_100 (dk_at dksX1_isDoor_0 13 rfl rfl)
theorem dX1_isDoor_14 : decode cX1_isDoor 14 = .ok (.invokestatic 248, 3) := dk_184 0 248 (dk_at dksX1_isDoor_0 14 rfl rfl)
theorem dX1_isDoor_17 : decode cX1_isDoor 17 = .ok (.ireturn, 1) := dk_172 (dk_at dksX1_isDoor_0 17 rfl rfl)
theorem fl_X1_247 : gFl "BitingDoors" 247 [3] 6 := by
  intro args s hts hN ci hc
  simp only [List.mem_cons, List.not_mem_nil, or_false] at hc
  subst hc
  exact ⟨RX4, TX4, 9, "BitingDoors$House", gCl_X4, in_X4, by decide, Or.inr ⟨"BitingDoors", va_Nw.use rfl (hN.1 ("BitingDoors", 247, "BitingDoors$House", "many", "I", "BitingDoors") (List.mem_of_getElem? (i := 4) rfl))⟩, fun _ h => h⟩
theorem dn_X1_isDoor : yX1_isDoor.cls ≠ "java/lang/invoke/MethodHandle" ∧ yX1_isDoor.cls ≠ "java/lang/invoke/VarHandle" ∧ (parseMethodDescriptor yX1_isDoor.desc).map (fun d => d.parameters.length) = some 1 := by decide +kernel
noncomputable def M_X1_isDoor (t : Nat) (p1 : Int32) : Mo Bool := Mo.bind (chk [0] t) (fun _ => Mo.bind (gR [0] t 9) (fun v1 => Mo.bind (gR [2] v1 0) (fun v2 => Mo.bind (gI [3] v2 6) (fun v3 => Mo.bind (M_X1_isIn p1 0 (v3 - 1)) (fun v4 => Mo.pure v4)))))
set_option maxHeartbeats 4000000 in
theorem ct_X1_isDoor (G : gG) (t : Nat) (p1 : Int32) : gCt G yX1_isDoor cX1_isDoor 2 (some .boolean) 1 22 [.ref t, .int p1] (M_X1_isDoor t p1) (fun x : Bool => some (.int (b2i x))) := by
  refine gCt.of (by decide) (Nat.le_of_ble_eq_true rfl) (fun K r hG X hd ho => ?_)
  subst hG
  have X : gX K cX1_isDoor 2 "BitingDoors" "isDoor" (some .boolean) 1 22 := X
  have hle : gLe (kh1 K) (kh1 K) := gLe.rf
  show V K 2 (kh0 K) 0 [(0, .ref t), (1, .int p1)] []
  generalize kh0 K = h at hd ⊢
  unfold M_X1_isDoor at hd
  obtain ⟨-, hd⟩ := chk_some hd
  refine v_iload_n X dX1_isDoor_0 1 1 rfl rfl ?_
  refine v_iconst (v := 0) X dX1_isDoor_1 (by decide) ?_
  refine v_aload_n X dX1_isDoor_2 0 0 rfl rfl ?_
  refine v_getR X hd fl_X1_90 dX1_isDoor_3 (fun v1 hd => ?_)
  refine v_getR X hd fl_X1_243 dX1_isDoor_6 (fun v2 hd => ?_)
  refine v_getI X hd fl_X1_247 dX1_isDoor_9 (fun v3 hd => ?_)
  refine v_iconst (v := 1) X dX1_isDoor_12 (by decide) ?_
  refine v_isub X dX1_isDoor_13 ?_
  refine v_callS X hd hle (ct_X1_isIn _ p1 0 (v3 - 1)) (lw_S q1119 q688 q109 q689) dn_X1_isIn rfl ⟨by decide, by decide⟩ rfl (Nat.le_of_ble_eq_true rfl) dX1_isDoor_14 (fun v4 h hd => ?_)
  show V K 2 h 17 [(0, .ref t), (1, .int p1)] [.int (b2i v4)]
  exact v_zret X hd rfl ho dX1_isDoor_17
def dkwX4_bitten_0 : List UInt8 := [42, 180, 0, 24, 7, 27, 104, 28, 96, 16, 10, 104, 29, 96, 46, 172]
abbrev dktX4_bitten_0 : List UInt8 := dkwX4_bitten_0 ++ []
theorem dksX4_bitten_0 : cX4_bitten.data.toList.drop 0 = dktX4_bitten_0 := by decide +kernel
theorem dX4_bitten_0 : decode cX4_bitten 0 = .ok (.aload_n 0, 1) := dk_42 (dk_at dksX4_bitten_0 0 rfl rfl)
theorem dX4_bitten_1 : decode cX4_bitten 1 = .ok (.getfield 24, 3) := dk_180 0 24 (dk_at dksX4_bitten_0 1 rfl rfl)
theorem dX4_bitten_4 : decode cX4_bitten 4 = .ok (.iconst 4, 1) := dk_7 (dk_at dksX4_bitten_0 4 rfl rfl)
theorem dX4_bitten_5 : decode cX4_bitten 5 = .ok (.iload_n 1, 1) := dk_27 (dk_at dksX4_bitten_0 5 rfl rfl)
theorem dX4_bitten_6 : decode cX4_bitten 6 = .ok (.imul, 1) := dk_104 (dk_at dksX4_bitten_0 6 rfl rfl)
theorem dX4_bitten_7 : decode cX4_bitten 7 = .ok (.iload_n 2, 1) := dk_28 (dk_at dksX4_bitten_0 7 rfl rfl)
theorem dX4_bitten_8 : decode cX4_bitten 8 = .ok (.iadd, 1) := dk_96 (dk_at dksX4_bitten_0 8 rfl rfl)
theorem dX4_bitten_9 : decode cX4_bitten 9 = .ok (.bipush 10, 2) := dk_16 10 (dk_at dksX4_bitten_0 9 rfl rfl)
theorem dX4_bitten_11 : decode cX4_bitten 11 = .ok (.imul, 1) := dk_104 (dk_at dksX4_bitten_0 11 rfl rfl)
theorem dX4_bitten_12 : decode cX4_bitten 12 = .ok (.iload_n 3, 1) := dk_29 (dk_at dksX4_bitten_0 12 rfl rfl)
theorem dX4_bitten_13 : decode cX4_bitten 13 = .ok (.iadd, 1) := dk_96 (dk_at dksX4_bitten_0 13 rfl rfl)
theorem dX4_bitten_14 : decode cX4_bitten 14 = .ok (.iaload, 1) := dk_46 (dk_at dksX4_bitten_0 14 rfl rfl)
theorem dX4_bitten_15 : decode cX4_bitten 15 = .ok (.ireturn, 1) := dk_172 (dk_at dksX4_bitten_0 15 rfl rfl)
theorem fl_X4_24 : gFl "BitingDoors$House" 24 [3] 3 := by
  intro args s hts hN ci hc
  simp only [List.mem_cons, List.not_mem_nil, or_false] at hc
  subst hc
  exact ⟨RX4, TX4, 9, "BitingDoors$House", gCl_X4, in_X4, by decide, Or.inl (hts _ q279), fun _ h => h⟩
theorem dn_X4_bitten : yX4_bitten.cls ≠ "java/lang/invoke/MethodHandle" ∧ yX4_bitten.cls ≠ "java/lang/invoke/VarHandle" ∧ (parseMethodDescriptor yX4_bitten.desc).map (fun d => d.parameters.length) = some 3 := by decide +kernel
noncomputable def M_X4_bitten (t : Nat) (p1 : Int32) (p2 : Int32) (p3 : Int32) : Mo Int32 := Mo.bind (chk [3] t) (fun _ => Mo.bind (gR [3] t 3) (fun v1 => Mo.bind (aldI 0 v1 ((((4 * p1) + p2) * 10) + p3)) (fun v2 => Mo.pure v2)))
set_option maxHeartbeats 4000000 in
theorem ct_X4_bitten (G : gG) (t : Nat) (p1 : Int32) (p2 : Int32) (p3 : Int32) : gCt G yX4_bitten cX4_bitten 4 (some .int) 0 0 [.ref t, .int p1, .int p2, .int p3] (M_X4_bitten t p1 p2 p3) (fun x : Int32 => some (.int x)) := by
  refine gCt.of (by decide) (Nat.le_of_ble_eq_true rfl) (fun K r hG X hd ho => ?_)
  subst hG
  have X : gX K cX4_bitten 4 "BitingDoors$House" "bitten" (some .int) 0 0 := X
  have hle : gLe (kh1 K) (kh1 K) := gLe.rf
  show V K 4 (kh0 K) 0 [(0, .ref t), (1, .int p1), (2, .int p2), (3, .int p3)] []
  generalize kh0 K = h at hd ⊢
  unfold M_X4_bitten at hd
  obtain ⟨-, hd⟩ := chk_some hd
  refine v_aload_n X dX4_bitten_0 0 0 rfl rfl ?_
  refine v_getR X hd fl_X4_24 dX4_bitten_1 (fun v1 hd => ?_)
  refine v_iconst (v := 4) X dX4_bitten_4 (by decide) ?_
  refine v_iload_n X dX4_bitten_5 1 1 rfl rfl ?_
  refine v_imul X dX4_bitten_6 ?_
  refine v_iload_n X dX4_bitten_7 2 2 rfl rfl ?_
  refine v_iadd X dX4_bitten_8 ?_
  refine v_bipush (v := 10) X dX4_bitten_9 (by decide) ?_
  refine v_imul X dX4_bitten_11 ?_
  refine v_iload_n X dX4_bitten_12 3 3 rfl rfl ?_
  refine v_iadd X dX4_bitten_13 ?_
  refine v_iald X hd dX4_bitten_14 (fun v2 hd => ?_)
  exact v_iret X hd ho dX4_bitten_15
def dkwX1_isBitten_2 : List UInt8 := [172, 132, 4, 1, 167, 255, 209, 3, 172]
abbrev dktX1_isBitten_2 : List UInt8 := dkwX1_isBitten_2 ++ []
def dkwX1_isBitten_1 : List UInt8 := [180, 0, 243, 27, 28, 21, 4, 182, 1, 69, 42, 180, 0, 124, 21, 4, 46, 184, 1, 73, 153, 0, 5, 4]
abbrev dktX1_isBitten_1 : List UInt8 := dkwX1_isBitten_1 ++ dktX1_isBitten_2
def dkwX1_isBitten_0 : List UInt8 := [3, 54, 4, 21, 4, 27, 162, 0, 47, 29, 21, 4, 184, 1, 73, 153, 0, 32, 42, 180, 0, 90]
abbrev dktX1_isBitten_0 : List UInt8 := dkwX1_isBitten_0 ++ dktX1_isBitten_1
theorem dksX1_isBitten_0 : cX1_isBitten.data.toList.drop 0 = dktX1_isBitten_0 := by decide +kernel
theorem dksX1_isBitten_1 : cX1_isBitten.data.toList.drop 22 = dktX1_isBitten_1 := dk_seg dksX1_isBitten_0 22 rfl rfl
theorem dksX1_isBitten_2 : cX1_isBitten.data.toList.drop 46 = dktX1_isBitten_2 := dk_seg dksX1_isBitten_1 24 rfl rfl
theorem dX1_isBitten_0 : decode cX1_isBitten 0 = .ok (.iconst 0, 1) := dk_3 (dk_at dksX1_isBitten_0 0 rfl rfl)
theorem dX1_isBitten_1 : decode cX1_isBitten 1 = .ok (.istore 4, 2) := dk_54 4 (dk_at dksX1_isBitten_0 1 rfl rfl)
theorem dX1_isBitten_3 : decode cX1_isBitten 3 = .ok (.iload 4, 2) := dk_21 4 (dk_at dksX1_isBitten_0 3 rfl rfl)
theorem dX1_isBitten_5 : decode cX1_isBitten 5 = .ok (.iload_n 1, 1) := dk_27 (dk_at dksX1_isBitten_0 5 rfl rfl)
theorem dX1_isBitten_6 : decode cX1_isBitten 6 = .ok (.if_icmp .ge 47, 3) := dk_162 0 47 (dk_at dksX1_isBitten_0 6 rfl rfl)
theorem dX1_isBitten_9 : decode cX1_isBitten 9 = .ok (.iload_n 3, 1) := dk_29 (dk_at dksX1_isBitten_0 9 rfl rfl)
theorem dX1_isBitten_10 : decode cX1_isBitten 10 = .ok (.iload 4, 2) := dk_21 4 (dk_at dksX1_isBitten_0 10 rfl rfl)
theorem dX1_isBitten_12 : decode cX1_isBitten 12 = .ok (.invokestatic 329, 3) := dk_184 1 73 (dk_at dksX1_isBitten_0 12 rfl rfl)
theorem dX1_isBitten_15 : decode cX1_isBitten 15 = .ok (.ifCond .eq 32, 3) := dk_153 0 32 (dk_at dksX1_isBitten_0 15 rfl rfl)
theorem dX1_isBitten_18 : decode cX1_isBitten 18 = .ok (.aload_n 0, 1) := dk_42 (dk_at dksX1_isBitten_0 18 rfl rfl)
theorem dX1_isBitten_19 : decode cX1_isBitten 19 = .ok (.getfield 90, 3) := dk_180 0 90 (dk_at dksX1_isBitten_0 19 rfl rfl)
theorem dX1_isBitten_22 : decode cX1_isBitten 22 = .ok (.getfield 243, 3) := dk_180 0 243 (dk_at dksX1_isBitten_1 0 rfl rfl)
theorem dX1_isBitten_25 : decode cX1_isBitten 25 = .ok (.iload_n 1, 1) := dk_27 (dk_at dksX1_isBitten_1 3 rfl rfl)
theorem dX1_isBitten_26 : decode cX1_isBitten 26 = .ok (.iload_n 2, 1) := dk_28 (dk_at dksX1_isBitten_1 4 rfl rfl)
theorem dX1_isBitten_27 : decode cX1_isBitten 27 = .ok (.iload 4, 2) := dk_21 4 (dk_at dksX1_isBitten_1 5 rfl rfl)
theorem dX1_isBitten_29 : decode cX1_isBitten 29 = .ok (.invokevirtual 325, 3) := dk_182 1 69 (dk_at dksX1_isBitten_1 7 rfl rfl)
theorem dX1_isBitten_32 : decode cX1_isBitten 32 = .ok (.aload_n 0, 1) := dk_42 (dk_at dksX1_isBitten_1 10 rfl rfl)
theorem dX1_isBitten_33 : decode cX1_isBitten 33 = .ok (.getfield 124, 3) := dk_180 0 124 (dk_at dksX1_isBitten_1 11 rfl rfl)
theorem dX1_isBitten_36 : decode cX1_isBitten 36 = .ok (.iload 4, 2) := dk_21 4 (dk_at dksX1_isBitten_1 14 rfl rfl)
theorem dX1_isBitten_38 : decode cX1_isBitten 38 = .ok (.iaload, 1) := dk_46 (dk_at dksX1_isBitten_1 16 rfl rfl)
theorem dX1_isBitten_39 : decode cX1_isBitten 39 = .ok (.invokestatic 329, 3) := dk_184 1 73 (dk_at dksX1_isBitten_1 17 rfl rfl)
theorem dX1_isBitten_42 : decode cX1_isBitten 42 = .ok (.ifCond .eq 5, 3) := dk_153 0 5 (dk_at dksX1_isBitten_1 20 rfl rfl)
theorem dX1_isBitten_45 : decode cX1_isBitten 45 = .ok (.iconst 1, 1) := dk_4 (dk_at dksX1_isBitten_1 23 rfl rfl)
theorem dX1_isBitten_46 : decode cX1_isBitten 46 = .ok (.ireturn, 1) := dk_172 (dk_at dksX1_isBitten_2 0 rfl rfl)
theorem dX1_isBitten_47 : decode cX1_isBitten 47 = .ok (.iinc 4 1, 3) := dk_132 4 1 (dk_at dksX1_isBitten_2 1 rfl rfl)
theorem dX1_isBitten_50 : decode cX1_isBitten 50 = .ok (.goto (-47), 3) := dk_167 255 209 (dk_at dksX1_isBitten_2 4 rfl rfl)
theorem dX1_isBitten_53 : decode cX1_isBitten 53 = .ok (.iconst 0, 1) := dk_3 (dk_at dksX1_isBitten_2 7 rfl rfl)
theorem dX1_isBitten_54 : decode cX1_isBitten 54 = .ok (.ireturn, 1) := dk_172 (dk_at dksX1_isBitten_2 8 rfl rfl)
theorem fl_X1_124 : gFl "BitingDoors" 124 [0] 16 := by
  intro args s hts hN ci hc
  simp only [List.mem_cons, List.not_mem_nil, or_false] at hc
  subst hc
  exact ⟨RX1, TX1, 46, "BitingDoors", gCl_X1, in_X1, by decide, Or.inl (hts _ q517), fun _ h => h⟩
theorem dn_X1_isBitten : yX1_isBitten.cls ≠ "java/lang/invoke/MethodHandle" ∧ yX1_isBitten.cls ≠ "java/lang/invoke/VarHandle" ∧ (parseMethodDescriptor yX1_isBitten.desc).map (fun d => d.parameters.length) = some 3 := by decide +kernel
noncomputable def M_X1_isBitten (t : Nat) (p1 : Int32) (p2 : Int32) (p3 : Int32) : Mo Bool := Mo.bind (chk [0] t) (fun _ => Mo.loop (S := Int32) (fun s1 => if p1 ≤ s1 then Mo.pure (Sum.inr false) else Mo.bind (M_X1_has p3 s1) (fun v4 => cond v4 (Mo.bind (gR [0] t 9) (fun v6 => Mo.bind (gR [2] v6 0) (fun v7 => Mo.bind (M_X4_bitten v7 p1 p2 s1) (fun v8 => Mo.bind (gR [0] t 16) (fun v9 => Mo.bind (aldI 0 v9 s1) (fun v10 => Mo.bind (M_X1_has v8 v10) (fun v11 => cond v11 (Mo.pure (Sum.inr true)) (Mo.lv (s1 + 1) (fun v12 => Mo.pure (Sum.inl v12)))))))))) (Mo.lv (s1 + 1) (fun v5 => Mo.pure (Sum.inl v5))))) 0)
set_option maxHeartbeats 4000000 in
theorem ct_X1_isBitten (G : gG) (t : Nat) (p1 : Int32) (p2 : Int32) (p3 : Int32) : gCt G yX1_isBitten cX1_isBitten 5 (some .boolean) 1 23 [.ref t, .int p1, .int p2, .int p3] (M_X1_isBitten t p1 p2 p3) (fun x : Bool => some (.int (b2i x))) := by
  refine gCt.of (by decide) (Nat.le_of_ble_eq_true rfl) (fun K r hG X hd ho => ?_)
  subst hG
  have X : gX K cX1_isBitten 5 "BitingDoors" "isBitten" (some .boolean) 1 23 := X
  have hle : gLe (kh1 K) (kh1 K) := gLe.rf
  show V K 5 (kh0 K) 0 [(0, .ref t), (1, .int p1), (2, .int p2), (3, .int p3)] []
  generalize kh0 K = h at hd ⊢
  unfold M_X1_isBitten at hd
  obtain ⟨-, hd⟩ := chk_some hd
  refine v_iconst (v := 0) X dX1_isBitten_0 (by decide) ?_
  refine v_istore (lv2 := [(4, .int 0), (0, .ref t), (1, .int p1), (2, .int p2), (3, .int p3)]) X dX1_isBitten_1 (by decide) rfl ?_
  refine v_loc [1, 2, 3, 4, 0] rfl ?_
  refine loop_ind hd (fun (s1 : Int32) h => V K 5 h 3 [(0, .ref t), (1, .int p1), (2, .int p2), (3, .int p3), (4, .int s1)] []) (fun s1 h x h2 hd hle0 ih2 ho3 => ?_)
  have hle := hle0.tr hle
  refine v_iload X dX1_isBitten_3 4 rfl ?_
  refine v_iload_n X dX1_isBitten_5 1 1 rfl rfl ?_
  refine v_icmp_ge (tgt := 53) X dX1_isBitten_6 (by decide) (fun q => ?_) (fun q => ?_)
  · have hd := ite_t q hd
    refine v_iconst (v := 0) X dX1_isBitten_53 (by decide) ?_
    have hd := lp_out hd ho3
    exact v_zret X hd rfl ho dX1_isBitten_54
  · have hd := ite_f q hd
    refine v_iload_n X dX1_isBitten_9 3 3 rfl rfl ?_
    refine v_iload X dX1_isBitten_10 4 rfl ?_
    refine v_callS X hd hle (ct_X1_has _ p3 s1) (lw_S q1163 q899 q109 q900) dn_X1_has rfl ⟨by decide, by decide⟩ rfl (Nat.le_of_ble_eq_true rfl) dX1_isBitten_12 (fun v4 h hd => ?_)
    show V K 5 h 15 [(0, .ref t), (1, .int p1), (2, .int p2), (3, .int p3), (4, .int s1)] [.int (b2i v4)]
    refine v_ifZ_eq (tgt := 47) X dX1_isBitten_15 (by decide) (fun q => ?_) (fun q => ?_)
    · have hd := cnd_f q hd
      refine v_iincL (lv2 := fun v5 => [(4, .int v5), (0, .ref t), (1, .int p1), (2, .int p2), (3, .int p3)]) X hd dX1_isBitten_47 4 rfl (by decide : Int32.ofInt 1 = 1) (by decide) (fun v5 => rfl) (fun v5 hd => ?_)
      refine v_goto (tgt := 3) X dX1_isBitten_50 (by decide) ?_
      exact v_loc [1, 2, 3, 4, 0] rfl (lp_in (P := fun (s1 : Int32) h => V K 5 h 3 [(0, .ref t), (1, .int p1), (2, .int p2), (3, .int p3), (4, .int s1)] []) hd ih2)
    · have hd := cnd_t q hd
      refine v_aload_n X dX1_isBitten_18 0 0 rfl rfl ?_
      refine v_getR X hd fl_X1_90 dX1_isBitten_19 (fun v6 hd => ?_)
      refine v_getR X hd fl_X1_243 dX1_isBitten_22 (fun v7 hd => ?_)
      refine v_iload_n X dX1_isBitten_25 1 1 rfl rfl ?_
      refine v_iload_n X dX1_isBitten_26 2 2 rfl rfl ?_
      refine v_iload X dX1_isBitten_27 4 rfl ?_
      refine v_callV X hd hle (ct_X4_bitten _ v7 p1 p2 s1) gCl_X4 (lw_V q1159 q1160 q1161 q114 q1162) ⟨rfl, dn_X4_bitten⟩ rfl ⟨by decide, by decide⟩ rfl (Nat.le_of_ble_eq_true rfl) dX1_isBitten_29 (fun v8 h hd => ?_)
      show V K 5 h 32 [(0, .ref t), (1, .int p1), (2, .int p2), (3, .int p3), (4, .int s1)] [.int v8]
      refine v_aload_n X dX1_isBitten_32 0 0 rfl rfl ?_
      refine v_getR X hd fl_X1_124 dX1_isBitten_33 (fun v9 hd => ?_)
      refine v_iload X dX1_isBitten_36 4 rfl ?_
      refine v_iald X hd dX1_isBitten_38 (fun v10 hd => ?_)
      refine v_callS X hd hle (ct_X1_has _ v8 v10) (lw_S q1163 q899 q109 q900) dn_X1_has rfl ⟨by decide, by decide⟩ rfl (Nat.le_of_ble_eq_true rfl) dX1_isBitten_39 (fun v11 h hd => ?_)
      show V K 5 h 42 [(0, .ref t), (1, .int p1), (2, .int p2), (3, .int p3), (4, .int s1)] [.int (b2i v11)]
      refine v_ifZ_eq (tgt := 47) X dX1_isBitten_42 (by decide) (fun q => ?_) (fun q => ?_)
      · have hd := cnd_f q hd
        refine v_iincL (lv2 := fun v12 => [(4, .int v12), (0, .ref t), (1, .int p1), (2, .int p2), (3, .int p3)]) X hd dX1_isBitten_47 4 rfl (by decide : Int32.ofInt 1 = 1) (by decide) (fun v12 => rfl) (fun v12 hd => ?_)
        refine v_goto (tgt := 3) X dX1_isBitten_50 (by decide) ?_
        exact v_loc [1, 2, 3, 4, 0] rfl (lp_in (P := fun (s1 : Int32) h => V K 5 h 3 [(0, .ref t), (1, .int p1), (2, .int p2), (3, .int p3), (4, .int s1)] []) hd ih2)
      · have hd := cnd_t q hd
        refine v_iconst (v := 1) X dX1_isBitten_45 (by decide) ?_
        have hd := lp_out hd ho3
        exact v_zret X hd rfl ho dX1_isBitten_46
def dkwX1_cheapest_2_7 : List UInt8 := [167, 0, 4, 4, 96, 182, 1, 98, 132, 4, 1, 167, 255, 152, 177]
abbrev dktX1_cheapest_2_7 : List UInt8 := dkwX1_cheapest_2_7 ++ []
def dkwX1_cheapest_2_6 : List UInt8 := [153, 0, 7, 3, 167, 0, 11, 42, 27, 182, 1, 15, 180, 1, 38, 96, 29, 21, 5, 153, 0, 7, 3]
abbrev dktX1_cheapest_2_6 : List UInt8 := dkwX1_cheapest_2_6 ++ dktX1_cheapest_2_7
def dkwX1_cheapest_2_5 : List UInt8 := [180, 1, 30, 27, 46, 160, 0, 7, 4, 167, 0, 4, 3, 54, 5, 42, 27, 4, 96, 28, 21, 5]
abbrev dktX1_cheapest_2_5 : List UInt8 := dkwX1_cheapest_2_5 ++ dktX1_cheapest_2_6
def dkwX1_cheapest_2_4 : List UInt8 := [182, 1, 95, 153, 0, 6, 167, 0, 70, 42, 180, 0, 124, 27, 21, 4, 79, 21, 4, 42, 180, 0, 90]
abbrev dktX1_cheapest_2_4 : List UInt8 := dkwX1_cheapest_2_4 ++ dktX1_cheapest_2_5
def dkwX1_cheapest_2_3 : List UInt8 := [7, 162, 0, 104, 42, 180, 0, 120, 27, 46, 21, 4, 184, 1, 73, 153, 0, 84, 42, 27, 21, 4, 2]
abbrev dktX1_cheapest_2_3 : List UInt8 := dkwX1_cheapest_2_3 ++ dktX1_cheapest_2_4
def dkwX1_cheapest_2_2 : List UInt8 := [181, 1, 86, 42, 180, 0, 124, 3, 42, 180, 0, 127, 3, 16, 10, 184, 1, 89, 177, 3, 54, 4, 21, 4]
abbrev dktX1_cheapest_2_2 : List UInt8 := dkwX1_cheapest_2_2 ++ dktX1_cheapest_2_3
def dkwX1_cheapest_2_1 : List UInt8 := [177, 27, 42, 180, 0, 90, 180, 0, 243, 180, 0, 247, 160, 0, 29, 42, 28, 181, 1, 83, 42, 29]
abbrev dktX1_cheapest_2_1 : List UInt8 := dkwX1_cheapest_2_1 ++ dktX1_cheapest_2_2
def dkwX1_cheapest_2_0 : List UInt8 := [28, 42, 180, 1, 83, 163, 0, 19, 28, 42, 180, 1, 83, 160, 0, 12, 29, 42, 180, 1, 86, 161, 0, 4]
abbrev dktX1_cheapest_2_0 : List UInt8 := dkwX1_cheapest_2_0 ++ dktX1_cheapest_2_1
theorem dksX1_cheapest_2_0 : cX1_cheapest_2.data.toList.drop 0 = dktX1_cheapest_2_0 := by decide +kernel
theorem dksX1_cheapest_2_1 : cX1_cheapest_2.data.toList.drop 24 = dktX1_cheapest_2_1 := dk_seg dksX1_cheapest_2_0 24 rfl rfl
theorem dksX1_cheapest_2_2 : cX1_cheapest_2.data.toList.drop 46 = dktX1_cheapest_2_2 := dk_seg dksX1_cheapest_2_1 22 rfl rfl
theorem dksX1_cheapest_2_3 : cX1_cheapest_2.data.toList.drop 70 = dktX1_cheapest_2_3 := dk_seg dksX1_cheapest_2_2 24 rfl rfl
theorem dksX1_cheapest_2_4 : cX1_cheapest_2.data.toList.drop 93 = dktX1_cheapest_2_4 := dk_seg dksX1_cheapest_2_3 23 rfl rfl
theorem dksX1_cheapest_2_5 : cX1_cheapest_2.data.toList.drop 116 = dktX1_cheapest_2_5 := dk_seg dksX1_cheapest_2_4 23 rfl rfl
theorem dksX1_cheapest_2_6 : cX1_cheapest_2.data.toList.drop 138 = dktX1_cheapest_2_6 := dk_seg dksX1_cheapest_2_5 22 rfl rfl
theorem dksX1_cheapest_2_7 : cX1_cheapest_2.data.toList.drop 161 = dktX1_cheapest_2_7 := dk_seg dksX1_cheapest_2_6 23 rfl rfl
theorem dX1_cheapest_2_0 : decode cX1_cheapest_2 0 = .ok (.iload_n 2, 1) := dk_28 (dk_at dksX1_cheapest_2_0 0 rfl rfl)
theorem dX1_cheapest_2_1 : decode cX1_cheapest_2 1 = .ok (.aload_n 0, 1) := dk_42 (dk_at dksX1_cheapest_2_0 1 rfl rfl)
theorem dX1_cheapest_2_2 : decode cX1_cheapest_2 2 = .ok (.getfield 339, 3) := dk_180 1 83 (dk_at dksX1_cheapest_2_0 2 rfl rfl)
theorem dX1_cheapest_2_5 : decode cX1_cheapest_2 5 = .ok (.if_icmp .gt 19, 3) := dk_163 0 19 (dk_at dksX1_cheapest_2_0 5 rfl rfl)
theorem dX1_cheapest_2_8 : decode cX1_cheapest_2 8 = .ok (.iload_n 2, 1) := dk_28 (dk_at dksX1_cheapest_2_0 8 rfl rfl)
theorem dX1_cheapest_2_9 : decode cX1_cheapest_2 9 = .ok (.aload_n 0, 1) := dk_42 (dk_at dksX1_cheapest_2_0 9 rfl rfl)
theorem dX1_cheapest_2_10 : decode cX1_cheapest_2 10 = .ok (.getfield 339, 3) := dk_180 1 83 (dk_at dksX1_cheapest_2_0 10 rfl rfl)
theorem dX1_cheapest_2_13 : decode cX1_cheapest_2 13 = .ok (.if_icmp .ne 12, 3) := dk_160 0 12 (dk_at dksX1_cheapest_2_0 13 rfl rfl)
theorem dX1_cheapest_2_16 : decode cX1_cheapest_2 16 = .ok (.iload_n 3, 1) := dk_29 (dk_at dksX1_cheapest_2_0 16 rfl rfl)
theorem dX1_cheapest_2_17 : decode cX1_cheapest_2 17 = .ok (.aload_n 0, 1) := dk_42 (dk_at dksX1_cheapest_2_0 17 rfl rfl)
theorem dX1_cheapest_2_18 : decode cX1_cheapest_2 18 = .ok (.getfield 342, 3) := dk_180 1 86 (dk_at dksX1_cheapest_2_0 18 rfl rfl)
theorem dX1_cheapest_2_21 : decode cX1_cheapest_2 21 = .ok (.if_icmp .lt 4, 3) := dk_161 0 4 (dk_at dksX1_cheapest_2_0 21 rfl rfl)
theorem dX1_cheapest_2_24 : decode cX1_cheapest_2 24 = .ok (.return_, 1) := dk_177 (dk_at dksX1_cheapest_2_1 0 rfl rfl)
theorem dX1_cheapest_2_25 : decode cX1_cheapest_2 25 = .ok (.iload_n 1, 1) := dk_27 (dk_at dksX1_cheapest_2_1 1 rfl rfl)
theorem dX1_cheapest_2_26 : decode cX1_cheapest_2 26 = .ok (.aload_n 0, 1) := dk_42 (dk_at dksX1_cheapest_2_1 2 rfl rfl)
theorem dX1_cheapest_2_27 : decode cX1_cheapest_2 27 = .ok (.getfield 90, 3) := dk_180 0 90 (dk_at dksX1_cheapest_2_1 3 rfl rfl)
theorem dX1_cheapest_2_30 : decode cX1_cheapest_2 30 = .ok (.getfield 243, 3) := dk_180 0 243 (dk_at dksX1_cheapest_2_1 6 rfl rfl)
theorem dX1_cheapest_2_33 : decode cX1_cheapest_2 33 = .ok (.getfield 247, 3) := dk_180 0 247 (dk_at dksX1_cheapest_2_1 9 rfl rfl)
theorem dX1_cheapest_2_36 : decode cX1_cheapest_2 36 = .ok (.if_icmp .ne 29, 3) := dk_160 0 29 (dk_at dksX1_cheapest_2_1 12 rfl rfl)
theorem dX1_cheapest_2_39 : decode cX1_cheapest_2 39 = .ok (.aload_n 0, 1) := dk_42 (dk_at dksX1_cheapest_2_1 15 rfl rfl)
theorem dX1_cheapest_2_40 : decode cX1_cheapest_2 40 = .ok (.iload_n 2, 1) := dk_28 (dk_at dksX1_cheapest_2_1 16 rfl rfl)
theorem dX1_cheapest_2_41 : decode cX1_cheapest_2 41 = .ok (.putfield 339, 3) := dk_181 1 83 (dk_at dksX1_cheapest_2_1 17 rfl rfl)
theorem dX1_cheapest_2_44 : decode cX1_cheapest_2 44 = .ok (.aload_n 0, 1) := dk_42 (dk_at dksX1_cheapest_2_1 20 rfl rfl)
theorem dX1_cheapest_2_45 : decode cX1_cheapest_2 45 = .ok (.iload_n 3, 1) := dk_29 (dk_at dksX1_cheapest_2_1 21 rfl rfl)
theorem dX1_cheapest_2_46 : decode cX1_cheapest_2 46 = .ok (.putfield 342, 3) := dk_181 1 86 (dk_at dksX1_cheapest_2_2 0 rfl rfl)
theorem dX1_cheapest_2_49 : decode cX1_cheapest_2 49 = .ok (.aload_n 0, 1) := dk_42 (dk_at dksX1_cheapest_2_2 3 rfl rfl)
theorem dX1_cheapest_2_50 : decode cX1_cheapest_2 50 = .ok (.getfield 124, 3) := dk_180 0 124 (dk_at dksX1_cheapest_2_2 4 rfl rfl)
theorem dX1_cheapest_2_53 : decode cX1_cheapest_2 53 = .ok (.iconst 0, 1) := dk_3 (dk_at dksX1_cheapest_2_2 7 rfl rfl)
theorem dX1_cheapest_2_54 : decode cX1_cheapest_2 54 = .ok (.aload_n 0, 1) := dk_42 (dk_at dksX1_cheapest_2_2 8 rfl rfl)
theorem dX1_cheapest_2_55 : decode cX1_cheapest_2 55 = .ok (.getfield 127, 3) := dk_180 0 127 (dk_at dksX1_cheapest_2_2 9 rfl rfl)
theorem dX1_cheapest_2_58 : decode cX1_cheapest_2 58 = .ok (.iconst 0, 1) := dk_3 (dk_at dksX1_cheapest_2_2 12 rfl rfl)
theorem dX1_cheapest_2_59 : decode cX1_cheapest_2 59 = .ok (.bipush 10, 2) := dk_16 10 (dk_at dksX1_cheapest_2_2 13 rfl rfl)
theorem dX1_cheapest_2_61 : decode cX1_cheapest_2 61 = .ok (.invokestatic 345, 3) := dk_184 1 89 (dk_at dksX1_cheapest_2_2 15 rfl rfl)
theorem dX1_cheapest_2_64 : decode cX1_cheapest_2 64 = .ok (.return_, 1) := dk_177 (dk_at dksX1_cheapest_2_2 18 rfl rfl)
theorem dX1_cheapest_2_65 : decode cX1_cheapest_2 65 = .ok (.iconst 0, 1) := dk_3 (dk_at dksX1_cheapest_2_2 19 rfl rfl)
theorem dX1_cheapest_2_66 : decode cX1_cheapest_2 66 = .ok (.istore 4, 2) := dk_54 4 (dk_at dksX1_cheapest_2_2 20 rfl rfl)
theorem dX1_cheapest_2_68 : decode cX1_cheapest_2 68 = .ok (.iload 4, 2) := dk_21 4 (dk_at dksX1_cheapest_2_2 22 rfl rfl)
theorem dX1_cheapest_2_70 : decode cX1_cheapest_2 70 = .ok (.iconst 4, 1) := dk_7 (dk_at dksX1_cheapest_2_3 0 rfl rfl)
theorem dX1_cheapest_2_71 : decode cX1_cheapest_2 71 = .ok (.if_icmp .ge 104, 3) := dk_162 0 104 (dk_at dksX1_cheapest_2_3 1 rfl rfl)
theorem dX1_cheapest_2_74 : decode cX1_cheapest_2 74 = .ok (.aload_n 0, 1) := dk_42 (dk_at dksX1_cheapest_2_3 4 rfl rfl)
theorem dX1_cheapest_2_75 : decode cX1_cheapest_2 75 = .ok (.getfield 120, 3) := dk_180 0 120 (dk_at dksX1_cheapest_2_3 5 rfl rfl)
theorem dX1_cheapest_2_78 : decode cX1_cheapest_2 78 = .ok (.iload_n 1, 1) := dk_27 (dk_at dksX1_cheapest_2_3 8 rfl rfl)
theorem dX1_cheapest_2_79 : decode cX1_cheapest_2 79 = .ok (.iaload, 1) := dk_46 (dk_at dksX1_cheapest_2_3 9 rfl rfl)
theorem dX1_cheapest_2_80 : decode cX1_cheapest_2 80 = .ok (.iload 4, 2) := dk_21 4 (dk_at dksX1_cheapest_2_3 10 rfl rfl)
theorem dX1_cheapest_2_82 : decode cX1_cheapest_2 82 = .ok (.invokestatic 329, 3) := dk_184 1 73 (dk_at dksX1_cheapest_2_3 12 rfl rfl)
theorem dX1_cheapest_2_85 : decode cX1_cheapest_2 85 = .ok (.ifCond .eq 84, 3) := dk_153 0 84 (dk_at dksX1_cheapest_2_3 15 rfl rfl)
theorem dX1_cheapest_2_88 : decode cX1_cheapest_2 88 = .ok (.aload_n 0, 1) := dk_42 (dk_at dksX1_cheapest_2_3 18 rfl rfl)
theorem dX1_cheapest_2_89 : decode cX1_cheapest_2 89 = .ok (.iload_n 1, 1) := dk_27 (dk_at dksX1_cheapest_2_3 19 rfl rfl)
theorem dX1_cheapest_2_90 : decode cX1_cheapest_2 90 = .ok (.iload 4, 2) := dk_21 4 (dk_at dksX1_cheapest_2_3 20 rfl rfl)
theorem dX1_cheapest_2_92 : decode cX1_cheapest_2 92 = .ok (.iconst (-1), 1) := dk_2 (dk_at dksX1_cheapest_2_3 22 rfl rfl)
theorem dX1_cheapest_2_93 : decode cX1_cheapest_2 93 = .ok (.invokevirtual 351, 3) := dk_182 1 95 (dk_at dksX1_cheapest_2_4 0 rfl rfl)
theorem dX1_cheapest_2_96 : decode cX1_cheapest_2 96 = .ok (.ifCond .eq 6, 3) := dk_153 0 6 (dk_at dksX1_cheapest_2_4 3 rfl rfl)
theorem dX1_cheapest_2_99 : decode cX1_cheapest_2 99 = .ok (.goto 70, 3) := dk_167 0 70 (dk_at dksX1_cheapest_2_4 6 rfl rfl)
theorem dX1_cheapest_2_102 : decode cX1_cheapest_2 102 = .ok (.aload_n 0, 1) := dk_42 (dk_at dksX1_cheapest_2_4 9 rfl rfl)
theorem dX1_cheapest_2_103 : decode cX1_cheapest_2 103 = .ok (.getfield 124, 3) := dk_180 0 124 (dk_at dksX1_cheapest_2_4 10 rfl rfl)
theorem dX1_cheapest_2_106 : decode cX1_cheapest_2 106 = .ok (.iload_n 1, 1) := dk_27 (dk_at dksX1_cheapest_2_4 13 rfl rfl)
theorem dX1_cheapest_2_107 : decode cX1_cheapest_2 107 = .ok (.iload 4, 2) := dk_21 4 (dk_at dksX1_cheapest_2_4 14 rfl rfl)
theorem dX1_cheapest_2_109 : decode cX1_cheapest_2 109 = .ok (.iastore, 1) := dk_79 (dk_at dksX1_cheapest_2_4 16 rfl rfl)
theorem dX1_cheapest_2_110 : decode cX1_cheapest_2 110 = .ok (.iload 4, 2) := dk_21 4 (dk_at dksX1_cheapest_2_4 17 rfl rfl)
theorem dX1_cheapest_2_112 : decode cX1_cheapest_2 112 = .ok (.aload_n 0, 1) := dk_42 (dk_at dksX1_cheapest_2_4 19 rfl rfl)
theorem dX1_cheapest_2_113 : decode cX1_cheapest_2 113 = .ok (.getfield 90, 3) := dk_180 0 90 (dk_at dksX1_cheapest_2_4 20 rfl rfl)
theorem dX1_cheapest_2_116 : decode cX1_cheapest_2 116 = .ok (.getfield 286, 3) := dk_180 1 30 (dk_at dksX1_cheapest_2_5 0 rfl rfl)
theorem dX1_cheapest_2_119 : decode cX1_cheapest_2 119 = .ok (.iload_n 1, 1) := dk_27 (dk_at dksX1_cheapest_2_5 3 rfl rfl)
theorem dX1_cheapest_2_120 : decode cX1_cheapest_2 120 = .ok (.iaload, 1) := dk_46 (dk_at dksX1_cheapest_2_5 4 rfl rfl)
theorem dX1_cheapest_2_121 : decode cX1_cheapest_2 121 = .ok (.if_icmp .ne 7, 3) := dk_160 0 7 (dk_at dksX1_cheapest_2_5 5 rfl rfl)
theorem dX1_cheapest_2_124 : decode cX1_cheapest_2 124 = .ok (.iconst 1, 1) := dk_4 (dk_at dksX1_cheapest_2_5 8 rfl rfl)
theorem dX1_cheapest_2_125 : decode cX1_cheapest_2 125 = .ok (.goto 4, 3) := dk_167 0 4 (dk_at dksX1_cheapest_2_5 9 rfl rfl)
theorem dX1_cheapest_2_128 : decode cX1_cheapest_2 128 = .ok (.iconst 0, 1) := dk_3 (dk_at dksX1_cheapest_2_5 12 rfl rfl)
theorem dX1_cheapest_2_129 : decode cX1_cheapest_2 129 = .ok (.istore 5, 2) := dk_54 5 (dk_at dksX1_cheapest_2_5 13 rfl rfl)
theorem dX1_cheapest_2_131 : decode cX1_cheapest_2 131 = .ok (.aload_n 0, 1) := dk_42 (dk_at dksX1_cheapest_2_5 15 rfl rfl)
theorem dX1_cheapest_2_132 : decode cX1_cheapest_2 132 = .ok (.iload_n 1, 1) := dk_27 (dk_at dksX1_cheapest_2_5 16 rfl rfl)
theorem dX1_cheapest_2_133 : decode cX1_cheapest_2 133 = .ok (.iconst 1, 1) := dk_4 (dk_at dksX1_cheapest_2_5 17 rfl rfl)
theorem dX1_cheapest_2_134 : decode cX1_cheapest_2 134 = .ok (.iadd, 1) := dk_96 (dk_at dksX1_cheapest_2_5 18 rfl rfl)
theorem dX1_cheapest_2_135 : decode cX1_cheapest_2 135 = .ok (.iload_n 2, 1) := dk_28 (dk_at dksX1_cheapest_2_5 19 rfl rfl)
theorem dX1_cheapest_2_136 : decode cX1_cheapest_2 136 = .ok (.iload 5, 2) := dk_21 5 (dk_at dksX1_cheapest_2_5 20 rfl rfl)
theorem dX1_cheapest_2_138 : decode cX1_cheapest_2 138 = .ok (.ifCond .eq 7, 3) := dk_153 0 7 (dk_at dksX1_cheapest_2_6 0 rfl rfl)
theorem dX1_cheapest_2_141 : decode cX1_cheapest_2 141 = .ok (.iconst 0, 1) := dk_3 (dk_at dksX1_cheapest_2_6 3 rfl rfl)
theorem dX1_cheapest_2_142 : decode cX1_cheapest_2 142 = .ok (.goto 11, 3) := dk_167 0 11 (dk_at dksX1_cheapest_2_6 4 rfl rfl)
theorem dX1_cheapest_2_145 : decode cX1_cheapest_2 145 = .ok (.aload_n 0, 1) := dk_42 (dk_at dksX1_cheapest_2_6 7 rfl rfl)
theorem dX1_cheapest_2_146 : decode cX1_cheapest_2 146 = .ok (.iload_n 1, 1) := dk_27 (dk_at dksX1_cheapest_2_6 8 rfl rfl)
theorem dX1_cheapest_2_147 : decode cX1_cheapest_2 147 = .ok (.invokevirtual 271, 3) := dk_182 1 15 (dk_at dksX1_cheapest_2_6 9 rfl rfl)
theorem dX1_cheapest_2_150 : decode cX1_cheapest_2 150 = .ok (.getfield 294, 3) := dk_180 1 38 (dk_at dksX1_cheapest_2_6 12 rfl rfl)
theorem dX1_cheapest_2_153 : decode cX1_cheapest_2 153 = .ok (.iadd, 1) := dk_96 (dk_at dksX1_cheapest_2_6 15 rfl rfl)
theorem dX1_cheapest_2_154 : decode cX1_cheapest_2 154 = .ok (.iload_n 3, 1) := dk_29 (dk_at dksX1_cheapest_2_6 16 rfl rfl)
theorem dX1_cheapest_2_155 : decode cX1_cheapest_2 155 = .ok (.iload 5, 2) := dk_21 5 (dk_at dksX1_cheapest_2_6 17 rfl rfl)
theorem dX1_cheapest_2_157 : decode cX1_cheapest_2 157 = .ok (.ifCond .eq 7, 3) := dk_153 0 7 (dk_at dksX1_cheapest_2_6 19 rfl rfl)
theorem dX1_cheapest_2_160 : decode cX1_cheapest_2 160 = .ok (.iconst 0, 1) := dk_3 (dk_at dksX1_cheapest_2_6 22 rfl rfl)
theorem dX1_cheapest_2_161 : decode cX1_cheapest_2 161 = .ok (.goto 4, 3) := dk_167 0 4 (dk_at dksX1_cheapest_2_7 0 rfl rfl)
theorem dX1_cheapest_2_164 : decode cX1_cheapest_2 164 = .ok (.iconst 1, 1) := dk_4 (dk_at dksX1_cheapest_2_7 3 rfl rfl)
theorem dX1_cheapest_2_165 : decode cX1_cheapest_2 165 = .ok (.iadd, 1) := dk_96 (dk_at dksX1_cheapest_2_7 4 rfl rfl)
theorem dX1_cheapest_2_166 : decode cX1_cheapest_2 166 = .ok (.invokevirtual 354, 3) := dk_182 1 98 (dk_at dksX1_cheapest_2_7 5 rfl rfl)
theorem dX1_cheapest_2_169 : decode cX1_cheapest_2 169 = .ok (.iinc 4 1, 3) := dk_132 4 1 (dk_at dksX1_cheapest_2_7 8 rfl rfl)
theorem dX1_cheapest_2_172 : decode cX1_cheapest_2 172 = .ok (.goto (-104), 3) := dk_167 255 152 (dk_at dksX1_cheapest_2_7 11 rfl rfl)
theorem dX1_cheapest_2_175 : decode cX1_cheapest_2 175 = .ok (.return_, 1) := dk_177 (dk_at dksX1_cheapest_2_7 14 rfl rfl)
theorem fl_X1_120 : gFl "BitingDoors" 120 [0] 15 := by
  intro args s hts hN ci hc
  simp only [List.mem_cons, List.not_mem_nil, or_false] at hc
  subst hc
  exact ⟨RX1, TX1, 46, "BitingDoors", gCl_X1, in_X1, by decide, Or.inl (hts _ q516), fun _ h => h⟩
theorem fl_X1_127 : gFl "BitingDoors" 127 [0] 17 := by
  intro args s hts hN ci hc
  simp only [List.mem_cons, List.not_mem_nil, or_false] at hc
  subst hc
  exact ⟨RX1, TX1, 46, "BitingDoors", gCl_X1, in_X1, by decide, Or.inl (hts _ q518), fun _ h => h⟩
theorem fl_X1_286 : gFl "BitingDoors" 286 [2] 1 := by
  intro args s hts hN ci hc
  simp only [List.mem_cons, List.not_mem_nil, or_false] at hc
  subst hc
  exact ⟨RX3, TX3, 6, "BitingDoors$Walker", gCl_X3, in_X3, by decide, Or.inr ⟨"BitingDoors", va_Nw.use rfl (hN.1 ("BitingDoors", 286, "BitingDoors$Walker", "hanging", "[I", "BitingDoors") (List.mem_of_getElem? (i := 8) rfl))⟩, fun _ h => h⟩
theorem fl_X1_294 : gFl "BitingDoors" 294 [9] 10 := by
  intro args s hts hN ci hc
  simp only [List.mem_cons, List.not_mem_nil, or_false] at hc
  subst hc
  exact ⟨RX11, TX11, 12, "BitingDoors$Door", gCl_X11, in_X11, by decide, Or.inr ⟨"BitingDoors", va_Nw.use rfl (hN.1 ("BitingDoors", 294, "BitingDoors$Door", "costs", "I", "BitingDoors") (List.mem_of_getElem? (i := 23) rfl))⟩, fun _ h => h⟩
theorem fl_X1_339 : gFl "BitingDoors" 339 [0] 18 := by
  intro args s hts hN ci hc
  simp only [List.mem_cons, List.not_mem_nil, or_false] at hc
  subst hc
  exact ⟨RX1, TX1, 46, "BitingDoors", gCl_X1, in_X1, by decide, Or.inl (hts _ q519), fun _ h => h⟩
theorem fl_X1_342 : gFl "BitingDoors" 342 [0] 19 := by
  intro args s hts hN ci hc
  simp only [List.mem_cons, List.not_mem_nil, or_false] at hc
  subst hc
  exact ⟨RX1, TX1, 46, "BitingDoors", gCl_X1, in_X1, by decide, Or.inl (hts _ q520), fun _ h => h⟩
theorem fp_X1_339 {nm : String} : gFp "BitingDoors" nm 339 [0] 18 .int := by
  intro args s hts hN ci hc
  simp only [List.mem_cons, List.not_mem_nil, or_false] at hc
  subst hc
  exact ⟨RX1, TX1, 46, "BitingDoors", gCl_X1, in_X1, by decide, Or.inl ⟨rfl, Or.inl (hts _ q519)⟩, fun _ h => h, rfl, fun D tys hK => gap_X1 hts hK⟩
theorem fp_X1_342 {nm : String} : gFp "BitingDoors" nm 342 [0] 19 .int := by
  intro args s hts hN ci hc
  simp only [List.mem_cons, List.not_mem_nil, or_false] at hc
  subst hc
  exact ⟨RX1, TX1, 46, "BitingDoors", gCl_X1, in_X1, by decide, Or.inl ⟨rfl, Or.inl (hts _ q520)⟩, fun _ h => h, rfl, fun D tys hK => gap_X1 hts hK⟩
theorem dn_X1_cheapest_2 : yX1_cheapest_2.cls ≠ "java/lang/invoke/MethodHandle" ∧ yX1_cheapest_2.cls ≠ "java/lang/invoke/VarHandle" ∧ (parseMethodDescriptor yX1_cheapest_2.desc).map (fun d => d.parameters.length) = some 3 := by decide +kernel
noncomputable def B_X1_cheapest_2 (Rc : Nat → Int32 → Int32 → Int32 → Mo Unit) (t : Nat) (p1 : Int32) (p2 : Int32) (p3 : Int32) : Mo Unit := Mo.bind (gI [0] t 18) (fun v1 => if v1 < p2 then Mo.pure () else Mo.bind (gI [0] t 18) (fun v2 => if p2 = v2 then Mo.bind (gI [0] t 19) (fun v28 => if p3 < v28 then Mo.bind (gR [0] t 9) (fun v29 => Mo.bind (gR [2] v29 0) (fun v30 => Mo.bind (gI [3] v30 6) (fun v31 => if p1 = v31 then Mo.bind (pF [0] t 18 (.int p2)) (fun _ => Mo.bind (pF [0] t 19 (.int p3)) (fun _ => Mo.bind (gR [0] t 16) (fun v52 => Mo.bind (gR [0] t 17) (fun v53 => Mo.bind (cpyI v52 0 v53 0 10) (fun _ => Mo.pure ()))))) else Mo.bind (Mo.loop (S := Int32) (E := Unit) (fun s32 => if 4 ≤ s32 then Mo.pure (Sum.inr ()) else Mo.bind (gR [0] t 15) (fun v36 => Mo.bind (aldI 0 v36 p1) (fun v37 => Mo.bind (M_X1_has v37 s32) (fun v38 => Mo.bind ((cond v38 (Mo.bind (M_X1_isBitten t p1 s32 (-1)) (fun v41 => cond v41 (Mo.pure ()) (Mo.bind (gR [0] t 16) (fun v42 => Mo.bind (astI 0 v42 p1 s32) (fun _ => Mo.bind (gR [0] t 9) (fun v43 => Mo.bind (gR [2] v43 1) (fun v44 => Mo.bind (aldI 0 v44 p1) (fun v45 => Mo.bind ((if s32 = v45 then Mo.pure true else Mo.pure false : Mo (Bool))) (fun u46 => Mo.bind ((cond u46 (Mo.pure 0) (Mo.bind (M_X1_at t p1) (fun v50 => Mo.bind (gI [9] v50 10) (fun v51 => Mo.pure v51))) : Mo (Int32))) (fun u47 => Mo.bind ((cond u46 (Mo.pure false) (Mo.pure true) : Mo (Bool))) (fun u48 => Mo.bind (Rc t (p1 + 1) (p2 + u47) (p3 + (b2i u48))) (fun v49 => Mo.pure ())))))))))))) (Mo.pure ()) : Mo (Unit))) (fun u39 => Mo.lv (s32 + 1) (fun v40 => Mo.pure (Sum.inl v40))))))) 0) (fun e35 => Mo.pure ())))) else Mo.pure ()) else Mo.bind (gR [0] t 9) (fun v3 => Mo.bind (gR [2] v3 0) (fun v4 => Mo.bind (gI [3] v4 6) (fun v5 => if p1 = v5 then Mo.bind (pF [0] t 18 (.int p2)) (fun _ => Mo.bind (pF [0] t 19 (.int p3)) (fun _ => Mo.bind (gR [0] t 16) (fun v26 => Mo.bind (gR [0] t 17) (fun v27 => Mo.bind (cpyI v26 0 v27 0 10) (fun _ => Mo.pure ()))))) else Mo.bind (Mo.loop (S := Int32) (E := Unit) (fun s6 => if 4 ≤ s6 then Mo.pure (Sum.inr ()) else Mo.bind (gR [0] t 15) (fun v10 => Mo.bind (aldI 0 v10 p1) (fun v11 => Mo.bind (M_X1_has v11 s6) (fun v12 => Mo.bind ((cond v12 (Mo.bind (M_X1_isBitten t p1 s6 (-1)) (fun v15 => cond v15 (Mo.pure ()) (Mo.bind (gR [0] t 16) (fun v16 => Mo.bind (astI 0 v16 p1 s6) (fun _ => Mo.bind (gR [0] t 9) (fun v17 => Mo.bind (gR [2] v17 1) (fun v18 => Mo.bind (aldI 0 v18 p1) (fun v19 => Mo.bind ((if s6 = v19 then Mo.pure true else Mo.pure false : Mo (Bool))) (fun u20 => Mo.bind ((cond u20 (Mo.pure 0) (Mo.bind (M_X1_at t p1) (fun v24 => Mo.bind (gI [9] v24 10) (fun v25 => Mo.pure v25))) : Mo (Int32))) (fun u21 => Mo.bind ((cond u20 (Mo.pure false) (Mo.pure true) : Mo (Bool))) (fun u22 => Mo.bind (Rc t (p1 + 1) (p2 + u21) (p3 + (b2i u22))) (fun v23 => Mo.pure ())))))))))))) (Mo.pure ()) : Mo (Unit))) (fun u13 => Mo.lv (s6 + 1) (fun v14 => Mo.pure (Sum.inl v14))))))) 0) (fun e9 => Mo.pure ()))))))
noncomputable def N_X1_cheapest_2 : Nat → Nat → Int32 → Int32 → Int32 → Mo Unit
  | 0 => fun _ _ _ _ => Mo.fail
  | n + 1 => B_X1_cheapest_2 (fun t p1 p2 p3 => Mo.bind (chk [0] t) (fun _ => N_X1_cheapest_2 n t p1 p2 p3))
noncomputable def M_X1_cheapest_2 (n : Nat) (t : Nat) (p1 : Int32) (p2 : Int32) (p3 : Int32) : Mo Unit := Mo.bind (chk [0] t) (fun _ => N_X1_cheapest_2 n t p1 p2 p3)
set_option maxHeartbeats 4000000 in
theorem ct_X1_cheapest_2 (G : gG) (n : Nat) : ∀ (t : Nat) (p1 : Int32) (p2 : Int32) (p3 : Int32), gCt G yX1_cheapest_2 cX1_cheapest_2 6 none (2 + n) (60 + n * 25) [.ref t, .int p1, .int p2, .int p3] (M_X1_cheapest_2 n t p1 p2 p3) (fun _ : Unit => none) := by
  induction n with
  | zero =>
    intro t p1 p2 p3 l hfl h r h2 hf
    obtain ⟨-, hf⟩ := chk_some hf
    cases hf
  | succ n ih =>
    intro t p1 p2 p3
    refine gCt.of (by decide) (Nat.le_of_ble_eq_true rfl) (fun K r hG X hd ho => ?_)
    subst hG
    have X : gX K cX1_cheapest_2 6 "BitingDoors" "cheapest" none (2 + (n + 1)) (60 + (n + 1) * 25) := X
    have hle : gLe (kh1 K) (kh1 K) := gLe.rf
    show V K 6 (kh0 K) 0 [(0, .ref t), (1, .int p1), (2, .int p2), (3, .int p3)] []
    generalize kh0 K = h at hd ⊢
    obtain ⟨-, hd⟩ := chk_some hd
    have hd : (B_X1_cheapest_2 (M_X1_cheapest_2 n) t p1 p2 p3).1 h = some (r, kh1 K) := hd
    unfold B_X1_cheapest_2 at hd
    refine v_iload_n X dX1_cheapest_2_0 2 2 rfl rfl ?_
    refine v_aload_n X dX1_cheapest_2_1 0 0 rfl rfl ?_
    refine v_getI X hd fl_X1_339 dX1_cheapest_2_2 (fun v1 hd => ?_)
    refine v_icmp_gt (tgt := 24) X dX1_cheapest_2_5 (by decide) (fun q => ?_) (fun q => ?_)
    · have hd := ite_t q hd
      exact v_vret X hd ho dX1_cheapest_2_24
    · have hd := ite_f q hd
      refine v_iload_n X dX1_cheapest_2_8 2 2 rfl rfl ?_
      refine v_aload_n X dX1_cheapest_2_9 0 0 rfl rfl ?_
      refine v_getI X hd fl_X1_339 dX1_cheapest_2_10 (fun v2 hd => ?_)
      refine v_icmp_ne (tgt := 25) X dX1_cheapest_2_13 (by decide) (fun q => ?_) (fun q => ?_)
      · have hd := ite_f q hd
        refine v_iload_n X dX1_cheapest_2_25 1 1 rfl rfl ?_
        refine v_aload_n X dX1_cheapest_2_26 0 0 rfl rfl ?_
        refine v_getR X hd fl_X1_90 dX1_cheapest_2_27 (fun v3 hd => ?_)
        refine v_getR X hd fl_X1_243 dX1_cheapest_2_30 (fun v4 hd => ?_)
        refine v_getI X hd fl_X1_247 dX1_cheapest_2_33 (fun v5 hd => ?_)
        refine v_icmp_ne (tgt := 65) X dX1_cheapest_2_36 (by decide) (fun q => ?_) (fun q => ?_)
        · have hd := ite_f q hd
          refine v_iconst (v := 0) X dX1_cheapest_2_65 (by decide) ?_
          refine v_istore (lv2 := [(4, .int 0), (0, .ref t), (1, .int p1), (2, .int p2), (3, .int p3)]) X dX1_cheapest_2_66 (by decide) rfl ?_
          obtain ⟨e9, h1, hd, hd2⟩ := Mo.bind_some hd
          have KX : V K 6 h1 175 [] [] := by
            clear hd
            have hd := hd2
            exact v_vret X hd ho dX1_cheapest_2_175
          have hle := (Mo.le hd2).tr hle
          clear hd2
          refine v_loc [1, 2, 3, 4, 0] rfl ?_
          refine loop_ind hd (fun (s6 : Int32) h => V K 6 h 68 [(0, .ref t), (1, .int p1), (2, .int p2), (3, .int p3), (4, .int s6)] []) (fun s6 h x h2 hd hle0 ih7 ho8 => ?_)
          have hle := hle0.tr hle
          refine v_iload X dX1_cheapest_2_68 4 rfl ?_
          refine v_iconst (v := 4) X dX1_cheapest_2_70 (by decide) ?_
          refine v_icmp_ge (tgt := 175) X dX1_cheapest_2_71 (by decide) (fun q => ?_) (fun q => ?_)
          · have hd := ite_t q hd
            exact v_loc [] rfl (v_at (P := fun (e9 : Unit) h => V K 6 h 175 [] []) (lp_out hd ho8) KX)
          · have hd := ite_f q hd
            refine v_aload_n X dX1_cheapest_2_74 0 0 rfl rfl ?_
            refine v_getR X hd fl_X1_120 dX1_cheapest_2_75 (fun v10 hd => ?_)
            refine v_iload_n X dX1_cheapest_2_78 1 1 rfl rfl ?_
            refine v_iald X hd dX1_cheapest_2_79 (fun v11 hd => ?_)
            refine v_iload X dX1_cheapest_2_80 4 rfl ?_
            refine v_callS X hd hle (ct_X1_has _ v11 s6) (lw_S q1163 q899 q109 q900) dn_X1_has rfl ⟨by omega, by omega⟩ rfl (Nat.le_of_ble_eq_true rfl) dX1_cheapest_2_82 (fun v12 h hd => ?_)
            show V K 6 h 85 [(0, .ref t), (1, .int p1), (2, .int p2), (3, .int p3), (4, .int s6)] [.int (b2i v12)]
            obtain ⟨u13, h1, hd, hd2⟩ := Mo.bind_some hd
            have KJ : V K 6 h1 169 [(0, .ref t), (1, .int p1), (2, .int p2), (3, .int p3), (4, .int s6)] [] := by
              clear hd
              have hd := hd2
              refine v_iincL (lv2 := fun v14 => [(4, .int v14), (0, .ref t), (1, .int p1), (2, .int p2), (3, .int p3)]) X hd dX1_cheapest_2_169 4 rfl (by decide : Int32.ofInt 1 = 1) (by decide) (fun v14 => rfl) (fun v14 hd => ?_)
              refine v_goto (tgt := 68) X dX1_cheapest_2_172 (by decide) ?_
              exact v_loc [1, 2, 3, 4, 0] rfl (lp_in (P := fun (s6 : Int32) h => V K 6 h 68 [(0, .ref t), (1, .int p1), (2, .int p2), (3, .int p3), (4, .int s6)] []) hd ih7)
            have hle := (Mo.le hd2).tr hle
            clear hd2
            refine v_ifZ_eq (tgt := 169) X dX1_cheapest_2_85 (by decide) (fun q => ?_) (fun q => ?_)
            · have hd := cnd_f q hd
              exact v_loc [0, 1, 2, 3, 4] rfl (v_at (P := fun (u13 : Unit) h => V K 6 h 169 [(0, .ref t), (1, .int p1), (2, .int p2), (3, .int p3), (4, .int s6)] []) hd KJ)
            · have hd := cnd_t q hd
              refine v_aload_n X dX1_cheapest_2_88 0 0 rfl rfl ?_
              refine v_iload_n X dX1_cheapest_2_89 1 1 rfl rfl ?_
              refine v_iload X dX1_cheapest_2_90 4 rfl ?_
              refine v_iconst (v := (-1)) X dX1_cheapest_2_92 (by decide) ?_
              refine v_callV X hd hle (ct_X1_isBitten _ t p1 s6 (-1)) gCl_X1 (lw_V q1190 q1192 qs18 q109 q1193) ⟨rfl, dn_X1_isBitten⟩ rfl ⟨by omega, by omega⟩ rfl (Nat.le_of_ble_eq_true rfl) dX1_cheapest_2_93 (fun v15 h hd => ?_)
              show V K 6 h 96 [(0, .ref t), (1, .int p1), (2, .int p2), (3, .int p3), (4, .int s6)] [.int (b2i v15)]
              refine v_ifZ_eq (tgt := 102) X dX1_cheapest_2_96 (by decide) (fun q => ?_) (fun q => ?_)
              · have hd := cnd_f q hd
                refine v_aload_n X dX1_cheapest_2_102 0 0 rfl rfl ?_
                refine v_getR X hd fl_X1_124 dX1_cheapest_2_103 (fun v16 hd => ?_)
                refine v_iload_n X dX1_cheapest_2_106 1 1 rfl rfl ?_
                refine v_iload X dX1_cheapest_2_107 4 rfl ?_
                refine v_iast X hd dX1_cheapest_2_109 (fun h hd => ?_)
                refine v_iload X dX1_cheapest_2_110 4 rfl ?_
                refine v_aload_n X dX1_cheapest_2_112 0 0 rfl rfl ?_
                refine v_getR X hd fl_X1_90 dX1_cheapest_2_113 (fun v17 hd => ?_)
                refine v_getR X hd fl_X1_286 dX1_cheapest_2_116 (fun v18 hd => ?_)
                refine v_iload_n X dX1_cheapest_2_119 1 1 rfl rfl ?_
                refine v_iald X hd dX1_cheapest_2_120 (fun v19 hd => ?_)
                obtain ⟨u20, h1, hd, hd2⟩ := Mo.bind_some hd
                have KJ : V K 6 h1 129 [(0, .ref t), (1, .int p1), (2, .int p2), (3, .int p3), (4, .int s6)] [.int (b2i u20)] := by
                  clear hd
                  have hd := hd2
                  refine v_istore (lv2 := [(5, .int (b2i u20)), (0, .ref t), (1, .int p1), (2, .int p2), (3, .int p3), (4, .int s6)]) X dX1_cheapest_2_129 (by decide) rfl ?_
                  refine v_aload_n X dX1_cheapest_2_131 1 0 rfl rfl ?_
                  refine v_iload_n X dX1_cheapest_2_132 2 1 rfl rfl ?_
                  refine v_iconst (v := 1) X dX1_cheapest_2_133 (by decide) ?_
                  refine v_iadd X dX1_cheapest_2_134 ?_
                  refine v_iload_n X dX1_cheapest_2_135 3 2 rfl rfl ?_
                  refine v_iload X dX1_cheapest_2_136 0 rfl ?_
                  obtain ⟨u21, h1, hd, hd2⟩ := Mo.bind_some hd
                  have KJ : V K 6 h1 153 [(0, .ref t), (1, .int p1), (2, .int p2), (3, .int p3), (4, .int s6), (5, .int (b2i u20))] [.int u21, .int p2, .int (p1 + 1), .ref t] := by
                    clear hd
                    have hd := hd2
                    refine v_iadd X dX1_cheapest_2_153 ?_
                    refine v_iload_n X dX1_cheapest_2_154 3 3 rfl rfl ?_
                    refine v_iload X dX1_cheapest_2_155 5 rfl ?_
                    obtain ⟨u22, h1, hd, hd2⟩ := Mo.bind_some hd
                    have KJ : V K 6 h1 165 [(0, .ref t), (1, .int p1), (2, .int p2), (3, .int p3), (4, .int s6)] [.int (b2i u22), .int p3, .int (p2 + u21), .int (p1 + 1), .ref t] := by
                      clear hd
                      have hd := hd2
                      refine v_iadd X dX1_cheapest_2_165 ?_
                      refine v_callV X hd hle (ih t (p1 + 1) (p2 + u21) (p3 + (b2i u22))) gCl_X1 (lw_V q1183 q1185 qs17 q109 q1186) ⟨rfl, dn_X1_cheapest_2⟩ rfl ⟨by omega, by omega⟩ rfl (Nat.le_of_ble_eq_true rfl) dX1_cheapest_2_166 (fun v23 h hd => ?_)
                      show V K 6 h 169 [(0, .ref t), (1, .int p1), (2, .int p2), (3, .int p3), (4, .int s6)] []
                      exact v_loc [0, 1, 2, 3, 4] rfl (v_at (P := fun (u13 : Unit) h => V K 6 h 169 [(0, .ref t), (1, .int p1), (2, .int p2), (3, .int p3), (4, .int s6)] []) hd KJ)
                    have hle := (Mo.le hd2).tr hle
                    clear hd2
                    refine v_ifZ_eq (tgt := 164) X dX1_cheapest_2_157 (by decide) (fun q => ?_) (fun q => ?_)
                    · have hd := cnd_f q hd
                      refine v_iconst (v := 1) X dX1_cheapest_2_164 (by decide) ?_
                      exact v_loc [0, 1, 2, 3, 4] rfl (v_at (P := fun (u22 : Bool) h => V K 6 h 165 [(0, .ref t), (1, .int p1), (2, .int p2), (3, .int p3), (4, .int s6)] [.int (b2i u22), .int p3, .int (p2 + u21), .int (p1 + 1), .ref t]) hd KJ)
                    · have hd := cnd_t q hd
                      refine v_iconst (v := 0) X dX1_cheapest_2_160 (by decide) ?_
                      refine v_goto (tgt := 165) X dX1_cheapest_2_161 (by decide) ?_
                      exact v_loc [0, 1, 2, 3, 4] rfl (v_at (P := fun (u22 : Bool) h => V K 6 h 165 [(0, .ref t), (1, .int p1), (2, .int p2), (3, .int p3), (4, .int s6)] [.int (b2i u22), .int p3, .int (p2 + u21), .int (p1 + 1), .ref t]) hd KJ)
                  have hle := (Mo.le hd2).tr hle
                  clear hd2
                  refine v_ifZ_eq (tgt := 145) X dX1_cheapest_2_138 (by decide) (fun q => ?_) (fun q => ?_)
                  · have hd := cnd_f q hd
                    refine v_aload_n X dX1_cheapest_2_145 1 0 rfl rfl ?_
                    refine v_iload_n X dX1_cheapest_2_146 2 1 rfl rfl ?_
                    refine v_callV X hd hle (ct_X1_at _ t p1) gCl_X1 (lw_V q1123 q1125 qs13 q109 q1126) ⟨rfl, dn_X1_at⟩ rfl ⟨by omega, by omega⟩ rfl (Nat.le_of_ble_eq_true rfl) dX1_cheapest_2_147 (fun v24 h hd => ?_)
                    show V K 6 h 150 [(5, .int (b2i u20)), (0, .ref t), (1, .int p1), (2, .int p2), (3, .int p3), (4, .int s6)] [.ref v24, .int p2, .int (p1 + 1), .ref t]
                    refine v_getI X hd fl_X1_294 dX1_cheapest_2_150 (fun v25 hd => ?_)
                    exact v_loc [1, 2, 3, 4, 5, 0] rfl (v_at (P := fun (u21 : Int32) h => V K 6 h 153 [(0, .ref t), (1, .int p1), (2, .int p2), (3, .int p3), (4, .int s6), (5, .int (b2i u20))] [.int u21, .int p2, .int (p1 + 1), .ref t]) hd KJ)
                  · have hd := cnd_t q hd
                    refine v_iconst (v := 0) X dX1_cheapest_2_141 (by decide) ?_
                    refine v_goto (tgt := 153) X dX1_cheapest_2_142 (by decide) ?_
                    exact v_loc [1, 2, 3, 4, 5, 0] rfl (v_at (P := fun (u21 : Int32) h => V K 6 h 153 [(0, .ref t), (1, .int p1), (2, .int p2), (3, .int p3), (4, .int s6), (5, .int (b2i u20))] [.int u21, .int p2, .int (p1 + 1), .ref t]) hd KJ)
                have hle := (Mo.le hd2).tr hle
                clear hd2
                refine v_icmp_ne (tgt := 128) X dX1_cheapest_2_121 (by decide) (fun q => ?_) (fun q => ?_)
                · have hd := ite_f q hd
                  refine v_iconst (v := 0) X dX1_cheapest_2_128 (by decide) ?_
                  exact v_loc [0, 1, 2, 3, 4] rfl (v_at (P := fun (u20 : Bool) h => V K 6 h 129 [(0, .ref t), (1, .int p1), (2, .int p2), (3, .int p3), (4, .int s6)] [.int (b2i u20)]) hd KJ)
                · have hd := ite_t q hd
                  refine v_iconst (v := 1) X dX1_cheapest_2_124 (by decide) ?_
                  refine v_goto (tgt := 129) X dX1_cheapest_2_125 (by decide) ?_
                  exact v_loc [0, 1, 2, 3, 4] rfl (v_at (P := fun (u20 : Bool) h => V K 6 h 129 [(0, .ref t), (1, .int p1), (2, .int p2), (3, .int p3), (4, .int s6)] [.int (b2i u20)]) hd KJ)
              · have hd := cnd_t q hd
                refine v_goto (tgt := 169) X dX1_cheapest_2_99 (by decide) ?_
                exact v_loc [0, 1, 2, 3, 4] rfl (v_at (P := fun (u13 : Unit) h => V K 6 h 169 [(0, .ref t), (1, .int p1), (2, .int p2), (3, .int p3), (4, .int s6)] []) hd KJ)
        · have hd := ite_t q hd
          refine v_aload_n X dX1_cheapest_2_39 0 0 rfl rfl ?_
          refine v_iload_n X dX1_cheapest_2_40 2 2 rfl rfl ?_
          refine v_put (v := .int p2) X hd fp_X1_339 rfl rfl dX1_cheapest_2_41 (fun h hd => ?_)
          refine v_aload_n X dX1_cheapest_2_44 0 0 rfl rfl ?_
          refine v_iload_n X dX1_cheapest_2_45 3 3 rfl rfl ?_
          refine v_put (v := .int p3) X hd fp_X1_342 rfl rfl dX1_cheapest_2_46 (fun h hd => ?_)
          refine v_aload_n X dX1_cheapest_2_49 0 0 rfl rfl ?_
          refine v_getR X hd fl_X1_124 dX1_cheapest_2_50 (fun v26 hd => ?_)
          refine v_iconst (v := 0) X dX1_cheapest_2_53 (by decide) ?_
          refine v_aload_n X dX1_cheapest_2_54 0 0 rfl rfl ?_
          refine v_getR X hd fl_X1_127 dX1_cheapest_2_55 (fun v27 hd => ?_)
          refine v_iconst (v := 0) X dX1_cheapest_2_58 (by decide) ?_
          refine v_bipush (v := 10) X dX1_cheapest_2_59 (by decide) ?_
          refine v_cpyI X hd q1187 q1189 q1188 q131 (Nat.le_of_ble_eq_true rfl) (by omega) (by exact Nat.le_trans (by decide : _ ≤ 60) (by omega)) dX1_cheapest_2_61 (fun h hd => ?_)
          exact v_vret X hd ho dX1_cheapest_2_64
      · have hd := ite_t q hd
        refine v_iload_n X dX1_cheapest_2_16 3 3 rfl rfl ?_
        refine v_aload_n X dX1_cheapest_2_17 0 0 rfl rfl ?_
        refine v_getI X hd fl_X1_342 dX1_cheapest_2_18 (fun v28 hd => ?_)
        refine v_icmp_lt (tgt := 25) X dX1_cheapest_2_21 (by decide) (fun q => ?_) (fun q => ?_)
        · have hd := ite_t q hd
          refine v_iload_n X dX1_cheapest_2_25 1 1 rfl rfl ?_
          refine v_aload_n X dX1_cheapest_2_26 0 0 rfl rfl ?_
          refine v_getR X hd fl_X1_90 dX1_cheapest_2_27 (fun v29 hd => ?_)
          refine v_getR X hd fl_X1_243 dX1_cheapest_2_30 (fun v30 hd => ?_)
          refine v_getI X hd fl_X1_247 dX1_cheapest_2_33 (fun v31 hd => ?_)
          refine v_icmp_ne (tgt := 65) X dX1_cheapest_2_36 (by decide) (fun q => ?_) (fun q => ?_)
          · have hd := ite_f q hd
            refine v_iconst (v := 0) X dX1_cheapest_2_65 (by decide) ?_
            refine v_istore (lv2 := [(4, .int 0), (0, .ref t), (1, .int p1), (2, .int p2), (3, .int p3)]) X dX1_cheapest_2_66 (by decide) rfl ?_
            obtain ⟨e35, h1, hd, hd2⟩ := Mo.bind_some hd
            have KX : V K 6 h1 175 [] [] := by
              clear hd
              have hd := hd2
              exact v_vret X hd ho dX1_cheapest_2_175
            have hle := (Mo.le hd2).tr hle
            clear hd2
            refine v_loc [1, 2, 3, 4, 0] rfl ?_
            refine loop_ind hd (fun (s32 : Int32) h => V K 6 h 68 [(0, .ref t), (1, .int p1), (2, .int p2), (3, .int p3), (4, .int s32)] []) (fun s32 h x h2 hd hle0 ih33 ho34 => ?_)
            have hle := hle0.tr hle
            refine v_iload X dX1_cheapest_2_68 4 rfl ?_
            refine v_iconst (v := 4) X dX1_cheapest_2_70 (by decide) ?_
            refine v_icmp_ge (tgt := 175) X dX1_cheapest_2_71 (by decide) (fun q => ?_) (fun q => ?_)
            · have hd := ite_t q hd
              exact v_loc [] rfl (v_at (P := fun (e35 : Unit) h => V K 6 h 175 [] []) (lp_out hd ho34) KX)
            · have hd := ite_f q hd
              refine v_aload_n X dX1_cheapest_2_74 0 0 rfl rfl ?_
              refine v_getR X hd fl_X1_120 dX1_cheapest_2_75 (fun v36 hd => ?_)
              refine v_iload_n X dX1_cheapest_2_78 1 1 rfl rfl ?_
              refine v_iald X hd dX1_cheapest_2_79 (fun v37 hd => ?_)
              refine v_iload X dX1_cheapest_2_80 4 rfl ?_
              refine v_callS X hd hle (ct_X1_has _ v37 s32) (lw_S q1163 q899 q109 q900) dn_X1_has rfl ⟨by omega, by omega⟩ rfl (Nat.le_of_ble_eq_true rfl) dX1_cheapest_2_82 (fun v38 h hd => ?_)
              show V K 6 h 85 [(0, .ref t), (1, .int p1), (2, .int p2), (3, .int p3), (4, .int s32)] [.int (b2i v38)]
              obtain ⟨u39, h1, hd, hd2⟩ := Mo.bind_some hd
              have KJ : V K 6 h1 169 [(0, .ref t), (1, .int p1), (2, .int p2), (3, .int p3), (4, .int s32)] [] := by
                clear hd
                have hd := hd2
                refine v_iincL (lv2 := fun v40 => [(4, .int v40), (0, .ref t), (1, .int p1), (2, .int p2), (3, .int p3)]) X hd dX1_cheapest_2_169 4 rfl (by decide : Int32.ofInt 1 = 1) (by decide) (fun v40 => rfl) (fun v40 hd => ?_)
                refine v_goto (tgt := 68) X dX1_cheapest_2_172 (by decide) ?_
                exact v_loc [1, 2, 3, 4, 0] rfl (lp_in (P := fun (s32 : Int32) h => V K 6 h 68 [(0, .ref t), (1, .int p1), (2, .int p2), (3, .int p3), (4, .int s32)] []) hd ih33)
              have hle := (Mo.le hd2).tr hle
              clear hd2
              refine v_ifZ_eq (tgt := 169) X dX1_cheapest_2_85 (by decide) (fun q => ?_) (fun q => ?_)
              · have hd := cnd_f q hd
                exact v_loc [0, 1, 2, 3, 4] rfl (v_at (P := fun (u39 : Unit) h => V K 6 h 169 [(0, .ref t), (1, .int p1), (2, .int p2), (3, .int p3), (4, .int s32)] []) hd KJ)
              · have hd := cnd_t q hd
                refine v_aload_n X dX1_cheapest_2_88 0 0 rfl rfl ?_
                refine v_iload_n X dX1_cheapest_2_89 1 1 rfl rfl ?_
                refine v_iload X dX1_cheapest_2_90 4 rfl ?_
                refine v_iconst (v := (-1)) X dX1_cheapest_2_92 (by decide) ?_
                refine v_callV X hd hle (ct_X1_isBitten _ t p1 s32 (-1)) gCl_X1 (lw_V q1190 q1192 qs18 q109 q1193) ⟨rfl, dn_X1_isBitten⟩ rfl ⟨by omega, by omega⟩ rfl (Nat.le_of_ble_eq_true rfl) dX1_cheapest_2_93 (fun v41 h hd => ?_)
                show V K 6 h 96 [(0, .ref t), (1, .int p1), (2, .int p2), (3, .int p3), (4, .int s32)] [.int (b2i v41)]
                refine v_ifZ_eq (tgt := 102) X dX1_cheapest_2_96 (by decide) (fun q => ?_) (fun q => ?_)
                · have hd := cnd_f q hd
                  refine v_aload_n X dX1_cheapest_2_102 0 0 rfl rfl ?_
                  refine v_getR X hd fl_X1_124 dX1_cheapest_2_103 (fun v42 hd => ?_)
                  refine v_iload_n X dX1_cheapest_2_106 1 1 rfl rfl ?_
                  refine v_iload X dX1_cheapest_2_107 4 rfl ?_
                  refine v_iast X hd dX1_cheapest_2_109 (fun h hd => ?_)
                  refine v_iload X dX1_cheapest_2_110 4 rfl ?_
                  refine v_aload_n X dX1_cheapest_2_112 0 0 rfl rfl ?_
                  refine v_getR X hd fl_X1_90 dX1_cheapest_2_113 (fun v43 hd => ?_)
                  refine v_getR X hd fl_X1_286 dX1_cheapest_2_116 (fun v44 hd => ?_)
                  refine v_iload_n X dX1_cheapest_2_119 1 1 rfl rfl ?_
                  refine v_iald X hd dX1_cheapest_2_120 (fun v45 hd => ?_)
                  obtain ⟨u46, h1, hd, hd2⟩ := Mo.bind_some hd
                  have KJ : V K 6 h1 129 [(0, .ref t), (1, .int p1), (2, .int p2), (3, .int p3), (4, .int s32)] [.int (b2i u46)] := by
                    clear hd
                    have hd := hd2
                    refine v_istore (lv2 := [(5, .int (b2i u46)), (0, .ref t), (1, .int p1), (2, .int p2), (3, .int p3), (4, .int s32)]) X dX1_cheapest_2_129 (by decide) rfl ?_
                    refine v_aload_n X dX1_cheapest_2_131 1 0 rfl rfl ?_
                    refine v_iload_n X dX1_cheapest_2_132 2 1 rfl rfl ?_
                    refine v_iconst (v := 1) X dX1_cheapest_2_133 (by decide) ?_
                    refine v_iadd X dX1_cheapest_2_134 ?_
                    refine v_iload_n X dX1_cheapest_2_135 3 2 rfl rfl ?_
                    refine v_iload X dX1_cheapest_2_136 0 rfl ?_
                    obtain ⟨u47, h1, hd, hd2⟩ := Mo.bind_some hd
                    have KJ : V K 6 h1 153 [(0, .ref t), (1, .int p1), (2, .int p2), (3, .int p3), (4, .int s32), (5, .int (b2i u46))] [.int u47, .int p2, .int (p1 + 1), .ref t] := by
                      clear hd
                      have hd := hd2
                      refine v_iadd X dX1_cheapest_2_153 ?_
                      refine v_iload_n X dX1_cheapest_2_154 3 3 rfl rfl ?_
                      refine v_iload X dX1_cheapest_2_155 5 rfl ?_
                      obtain ⟨u48, h1, hd, hd2⟩ := Mo.bind_some hd
                      have KJ : V K 6 h1 165 [(0, .ref t), (1, .int p1), (2, .int p2), (3, .int p3), (4, .int s32)] [.int (b2i u48), .int p3, .int (p2 + u47), .int (p1 + 1), .ref t] := by
                        clear hd
                        have hd := hd2
                        refine v_iadd X dX1_cheapest_2_165 ?_
                        refine v_callV X hd hle (ih t (p1 + 1) (p2 + u47) (p3 + (b2i u48))) gCl_X1 (lw_V q1183 q1185 qs17 q109 q1186) ⟨rfl, dn_X1_cheapest_2⟩ rfl ⟨by omega, by omega⟩ rfl (Nat.le_of_ble_eq_true rfl) dX1_cheapest_2_166 (fun v49 h hd => ?_)
                        show V K 6 h 169 [(0, .ref t), (1, .int p1), (2, .int p2), (3, .int p3), (4, .int s32)] []
                        exact v_loc [0, 1, 2, 3, 4] rfl (v_at (P := fun (u39 : Unit) h => V K 6 h 169 [(0, .ref t), (1, .int p1), (2, .int p2), (3, .int p3), (4, .int s32)] []) hd KJ)
                      have hle := (Mo.le hd2).tr hle
                      clear hd2
                      refine v_ifZ_eq (tgt := 164) X dX1_cheapest_2_157 (by decide) (fun q => ?_) (fun q => ?_)
                      · have hd := cnd_f q hd
                        refine v_iconst (v := 1) X dX1_cheapest_2_164 (by decide) ?_
                        exact v_loc [0, 1, 2, 3, 4] rfl (v_at (P := fun (u48 : Bool) h => V K 6 h 165 [(0, .ref t), (1, .int p1), (2, .int p2), (3, .int p3), (4, .int s32)] [.int (b2i u48), .int p3, .int (p2 + u47), .int (p1 + 1), .ref t]) hd KJ)
                      · have hd := cnd_t q hd
                        refine v_iconst (v := 0) X dX1_cheapest_2_160 (by decide) ?_
                        refine v_goto (tgt := 165) X dX1_cheapest_2_161 (by decide) ?_
                        exact v_loc [0, 1, 2, 3, 4] rfl (v_at (P := fun (u48 : Bool) h => V K 6 h 165 [(0, .ref t), (1, .int p1), (2, .int p2), (3, .int p3), (4, .int s32)] [.int (b2i u48), .int p3, .int (p2 + u47), .int (p1 + 1), .ref t]) hd KJ)
                    have hle := (Mo.le hd2).tr hle
                    clear hd2
                    refine v_ifZ_eq (tgt := 145) X dX1_cheapest_2_138 (by decide) (fun q => ?_) (fun q => ?_)
                    · have hd := cnd_f q hd
                      refine v_aload_n X dX1_cheapest_2_145 1 0 rfl rfl ?_
                      refine v_iload_n X dX1_cheapest_2_146 2 1 rfl rfl ?_
                      refine v_callV X hd hle (ct_X1_at _ t p1) gCl_X1 (lw_V q1123 q1125 qs13 q109 q1126) ⟨rfl, dn_X1_at⟩ rfl ⟨by omega, by omega⟩ rfl (Nat.le_of_ble_eq_true rfl) dX1_cheapest_2_147 (fun v50 h hd => ?_)
                      show V K 6 h 150 [(5, .int (b2i u46)), (0, .ref t), (1, .int p1), (2, .int p2), (3, .int p3), (4, .int s32)] [.ref v50, .int p2, .int (p1 + 1), .ref t]
                      refine v_getI X hd fl_X1_294 dX1_cheapest_2_150 (fun v51 hd => ?_)
                      exact v_loc [1, 2, 3, 4, 5, 0] rfl (v_at (P := fun (u47 : Int32) h => V K 6 h 153 [(0, .ref t), (1, .int p1), (2, .int p2), (3, .int p3), (4, .int s32), (5, .int (b2i u46))] [.int u47, .int p2, .int (p1 + 1), .ref t]) hd KJ)
                    · have hd := cnd_t q hd
                      refine v_iconst (v := 0) X dX1_cheapest_2_141 (by decide) ?_
                      refine v_goto (tgt := 153) X dX1_cheapest_2_142 (by decide) ?_
                      exact v_loc [1, 2, 3, 4, 5, 0] rfl (v_at (P := fun (u47 : Int32) h => V K 6 h 153 [(0, .ref t), (1, .int p1), (2, .int p2), (3, .int p3), (4, .int s32), (5, .int (b2i u46))] [.int u47, .int p2, .int (p1 + 1), .ref t]) hd KJ)
                  have hle := (Mo.le hd2).tr hle
                  clear hd2
                  refine v_icmp_ne (tgt := 128) X dX1_cheapest_2_121 (by decide) (fun q => ?_) (fun q => ?_)
                  · have hd := ite_f q hd
                    refine v_iconst (v := 0) X dX1_cheapest_2_128 (by decide) ?_
                    exact v_loc [0, 1, 2, 3, 4] rfl (v_at (P := fun (u46 : Bool) h => V K 6 h 129 [(0, .ref t), (1, .int p1), (2, .int p2), (3, .int p3), (4, .int s32)] [.int (b2i u46)]) hd KJ)
                  · have hd := ite_t q hd
                    refine v_iconst (v := 1) X dX1_cheapest_2_124 (by decide) ?_
                    refine v_goto (tgt := 129) X dX1_cheapest_2_125 (by decide) ?_
                    exact v_loc [0, 1, 2, 3, 4] rfl (v_at (P := fun (u46 : Bool) h => V K 6 h 129 [(0, .ref t), (1, .int p1), (2, .int p2), (3, .int p3), (4, .int s32)] [.int (b2i u46)]) hd KJ)
                · have hd := cnd_t q hd
                  refine v_goto (tgt := 169) X dX1_cheapest_2_99 (by decide) ?_
                  exact v_loc [0, 1, 2, 3, 4] rfl (v_at (P := fun (u39 : Unit) h => V K 6 h 169 [(0, .ref t), (1, .int p1), (2, .int p2), (3, .int p3), (4, .int s32)] []) hd KJ)
          · have hd := ite_t q hd
            refine v_aload_n X dX1_cheapest_2_39 0 0 rfl rfl ?_
            refine v_iload_n X dX1_cheapest_2_40 2 2 rfl rfl ?_
            refine v_put (v := .int p2) X hd fp_X1_339 rfl rfl dX1_cheapest_2_41 (fun h hd => ?_)
            refine v_aload_n X dX1_cheapest_2_44 0 0 rfl rfl ?_
            refine v_iload_n X dX1_cheapest_2_45 3 3 rfl rfl ?_
            refine v_put (v := .int p3) X hd fp_X1_342 rfl rfl dX1_cheapest_2_46 (fun h hd => ?_)
            refine v_aload_n X dX1_cheapest_2_49 0 0 rfl rfl ?_
            refine v_getR X hd fl_X1_124 dX1_cheapest_2_50 (fun v52 hd => ?_)
            refine v_iconst (v := 0) X dX1_cheapest_2_53 (by decide) ?_
            refine v_aload_n X dX1_cheapest_2_54 0 0 rfl rfl ?_
            refine v_getR X hd fl_X1_127 dX1_cheapest_2_55 (fun v53 hd => ?_)
            refine v_iconst (v := 0) X dX1_cheapest_2_58 (by decide) ?_
            refine v_bipush (v := 10) X dX1_cheapest_2_59 (by decide) ?_
            refine v_cpyI X hd q1187 q1189 q1188 q131 (Nat.le_of_ble_eq_true rfl) (by omega) (by exact Nat.le_trans (by decide : _ ≤ 60) (by omega)) dX1_cheapest_2_61 (fun h hd => ?_)
            exact v_vret X hd ho dX1_cheapest_2_64
        · have hd := ite_f q hd
          exact v_vret X hd ho dX1_cheapest_2_24
def dkwX11_can_0 : List UInt8 := [42, 180, 0, 20, 27, 46, 28, 184, 0, 45, 172]
abbrev dktX11_can_0 : List UInt8 := dkwX11_can_0 ++ []
theorem dksX11_can_0 : cX11_can.data.toList.drop 0 = dktX11_can_0 := by decide +kernel
theorem dX11_can_0 : decode cX11_can 0 = .ok (.aload_n 0, 1) := dk_42 (dk_at dksX11_can_0 0 rfl rfl)
theorem dX11_can_1 : decode cX11_can 1 = .ok (.getfield 20, 3) := dk_180 0 20 (dk_at dksX11_can_0 1 rfl rfl)
theorem dX11_can_4 : decode cX11_can 4 = .ok (.iload_n 1, 1) := dk_27 (dk_at dksX11_can_0 4 rfl rfl)
theorem dX11_can_5 : decode cX11_can 5 = .ok (.iaload, 1) := dk_46 (dk_at dksX11_can_0 5 rfl rfl)
theorem dX11_can_6 : decode cX11_can 6 = .ok (.iload_n 2, 1) := dk_28 (dk_at dksX11_can_0 6 rfl rfl)
theorem dX11_can_7 : decode cX11_can 7 = .ok (.invokestatic 45, 3) := dk_184 0 45 (dk_at dksX11_can_0 7 rfl rfl)
theorem dX11_can_10 : decode cX11_can 10 = .ok (.ireturn, 1) := dk_172 (dk_at dksX11_can_0 10 rfl rfl)
theorem fl_X11_20 : gFl "BitingDoors$Door" 20 [9] 7 := by
  intro args s hts hN ci hc
  simp only [List.mem_cons, List.not_mem_nil, or_false] at hc
  subst hc
  exact ⟨RX11, TX11, 12, "BitingDoors$Door", gCl_X11, in_X11, by decide, Or.inl (hts _ q855), fun _ h => h⟩
theorem dn_X11_can : yX11_can.cls ≠ "java/lang/invoke/MethodHandle" ∧ yX11_can.cls ≠ "java/lang/invoke/VarHandle" ∧ (parseMethodDescriptor yX11_can.desc).map (fun d => d.parameters.length) = some 2 := by decide +kernel
noncomputable def M_X11_can (t : Nat) (p1 : Int32) (p2 : Int32) : Mo Bool := Mo.bind (chk [9] t) (fun _ => Mo.bind (gR [9] t 7) (fun v1 => Mo.bind (aldI 0 v1 p1) (fun v2 => Mo.bind (M_X1_has v2 p2) (fun v3 => Mo.pure v3))))
set_option maxHeartbeats 4000000 in
theorem ct_X11_can (G : gG) (t : Nat) (p1 : Int32) (p2 : Int32) : gCt G yX11_can cX11_can 3 (some .boolean) 1 21 [.ref t, .int p1, .int p2] (M_X11_can t p1 p2) (fun x : Bool => some (.int (b2i x))) := by
  refine gCt.of (by decide) (Nat.le_of_ble_eq_true rfl) (fun K r hG X hd ho => ?_)
  subst hG
  have X : gX K cX11_can 3 "BitingDoors$Door" "can" (some .boolean) 1 21 := X
  have hle : gLe (kh1 K) (kh1 K) := gLe.rf
  show V K 3 (kh0 K) 0 [(0, .ref t), (1, .int p1), (2, .int p2)] []
  generalize kh0 K = h at hd ⊢
  unfold M_X11_can at hd
  obtain ⟨-, hd⟩ := chk_some hd
  refine v_aload_n X dX11_can_0 0 0 rfl rfl ?_
  refine v_getR X hd fl_X11_20 dX11_can_1 (fun v1 hd => ?_)
  refine v_iload_n X dX11_can_4 1 1 rfl rfl ?_
  refine v_iald X hd dX11_can_5 (fun v2 hd => ?_)
  refine v_iload_n X dX11_can_6 2 2 rfl rfl ?_
  refine v_callSN (host := "BitingDoors") X hd hle (ct_X1_has _ v2 p2) (List.mem_of_getElem? (i := 13) rfl) q900 q899 q109 dn_X1_has rfl ⟨by decide, by decide⟩ rfl (Nat.le_of_ble_eq_true rfl) dX11_can_7 (fun v3 h hd => ?_)
  show V K 3 h 10 [(0, .ref t), (1, .int p1), (2, .int p2)] [.int (b2i v3)]
  exact v_zret X hd rfl ho dX11_can_10
def dkwX11_isFit_1 : List UInt8 := [153, 0, 7, 4, 167, 0, 4, 3, 172]
abbrev dktX11_isFit_1 : List UInt8 := dkwX11_isFit_1 ++ []
def dkwX11_isFit_0 : List UInt8 := [42, 27, 4, 182, 0, 49, 153, 0, 23, 42, 180, 0, 51, 153, 0, 12, 42, 27, 5, 182, 0, 49]
abbrev dktX11_isFit_0 : List UInt8 := dkwX11_isFit_0 ++ dktX11_isFit_1
theorem dksX11_isFit_0 : cX11_isFit.data.toList.drop 0 = dktX11_isFit_0 := by decide +kernel
theorem dksX11_isFit_1 : cX11_isFit.data.toList.drop 22 = dktX11_isFit_1 := dk_seg dksX11_isFit_0 22 rfl rfl
theorem dX11_isFit_0 : decode cX11_isFit 0 = .ok (.aload_n 0, 1) := dk_42 (dk_at dksX11_isFit_0 0 rfl rfl)
theorem dX11_isFit_1 : decode cX11_isFit 1 = .ok (.iload_n 1, 1) := dk_27 (dk_at dksX11_isFit_0 1 rfl rfl)
theorem dX11_isFit_2 : decode cX11_isFit 2 = .ok (.iconst 1, 1) := dk_4 (dk_at dksX11_isFit_0 2 rfl rfl)
theorem dX11_isFit_3 : decode cX11_isFit 3 = .ok (.invokevirtual 49, 3) := dk_182 0 49 (dk_at dksX11_isFit_0 3 rfl rfl)
theorem dX11_isFit_6 : decode cX11_isFit 6 = .ok (.ifCond .eq 23, 3) := dk_153 0 23 (dk_at dksX11_isFit_0 6 rfl rfl)
theorem dX11_isFit_9 : decode cX11_isFit 9 = .ok (.aload_n 0, 1) := dk_42 (dk_at dksX11_isFit_0 9 rfl rfl)
theorem dX11_isFit_10 : decode cX11_isFit 10 = .ok (.getfield 51, 3) := dk_180 0 51 (dk_at dksX11_isFit_0 10 rfl rfl)
theorem dX11_isFit_13 : decode cX11_isFit 13 = .ok (.ifCond .eq 12, 3) := dk_153 0 12 (dk_at dksX11_isFit_0 13 rfl rfl)
theorem dX11_isFit_16 : decode cX11_isFit 16 = .ok (.aload_n 0, 1) := dk_42 (dk_at dksX11_isFit_0 16 rfl rfl)
theorem dX11_isFit_17 : decode cX11_isFit 17 = .ok (.iload_n 1, 1) := dk_27 (dk_at dksX11_isFit_0 17 rfl rfl)
theorem dX11_isFit_18 : decode cX11_isFit 18 = .ok (.iconst 2, 1) := dk_5 (dk_at dksX11_isFit_0 18 rfl rfl)
theorem dX11_isFit_19 : decode cX11_isFit 19 = .ok (.invokevirtual 49, 3) := dk_182 0 49 (dk_at dksX11_isFit_0 19 rfl rfl)
theorem dX11_isFit_22 : decode cX11_isFit 22 = .ok (.ifCond .eq 7, 3) := dk_153 0 7 (dk_at dksX11_isFit_1 0 rfl rfl)
theorem dX11_isFit_25 : decode cX11_isFit 25 = .ok (.iconst 1, 1) := dk_4 (dk_at dksX11_isFit_1 3 rfl rfl)
theorem dX11_isFit_26 : decode cX11_isFit 26 = .ok (.goto 4, 3) := dk_167 0 4 (dk_at dksX11_isFit_1 4 rfl rfl)
theorem dX11_isFit_29 : decode cX11_isFit 29 = .ok (.iconst 0, 1) := dk_3 (dk_at dksX11_isFit_1 7 rfl rfl)
theorem dX11_isFit_30 : decode cX11_isFit 30 = .ok (.ireturn, 1) := dk_172 (dk_at dksX11_isFit_1 8 rfl rfl)
theorem fl_X11_51 : gFl "BitingDoors$Door" 51 [9] 11 := by
  intro args s hts hN ci hc
  simp only [List.mem_cons, List.not_mem_nil, or_false] at hc
  subst hc
  exact ⟨RX11, TX11, 12, "BitingDoors$Door", gCl_X11, in_X11, by decide, Or.inl (hts _ q866), fun _ h => h⟩
theorem dn_X11_isFit : yX11_isFit.cls ≠ "java/lang/invoke/MethodHandle" ∧ yX11_isFit.cls ≠ "java/lang/invoke/VarHandle" ∧ (parseMethodDescriptor yX11_isFit.desc).map (fun d => d.parameters.length) = some 1 := by decide +kernel
noncomputable def M_X11_isFit (t : Nat) (p1 : Int32) : Mo Bool := Mo.bind (chk [9] t) (fun _ => Mo.bind (M_X11_can t p1 1) (fun v1 => Mo.bind ((cond v1 (Mo.bind (gZ [9] t 11) (fun v3 => cond v3 (Mo.bind (M_X11_can t p1 2) (fun v4 => cond v4 (Mo.pure true) (Mo.pure false))) (Mo.pure true))) (Mo.pure false) : Mo (Bool))) (fun u2 => Mo.pure u2)))
set_option maxHeartbeats 4000000 in
theorem ct_X11_isFit (G : gG) (t : Nat) (p1 : Int32) : gCt G yX11_isFit cX11_isFit 2 (some .boolean) 2 43 [.ref t, .int p1] (M_X11_isFit t p1) (fun x : Bool => some (.int (b2i x))) := by
  refine gCt.of (by decide) (Nat.le_of_ble_eq_true rfl) (fun K r hG X hd ho => ?_)
  subst hG
  have X : gX K cX11_isFit 2 "BitingDoors$Door" "isFit" (some .boolean) 2 43 := X
  have hle : gLe (kh1 K) (kh1 K) := gLe.rf
  show V K 2 (kh0 K) 0 [(0, .ref t), (1, .int p1)] []
  generalize kh0 K = h at hd ⊢
  unfold M_X11_isFit at hd
  obtain ⟨-, hd⟩ := chk_some hd
  refine v_aload_n X dX11_isFit_0 0 0 rfl rfl ?_
  refine v_iload_n X dX11_isFit_1 1 1 rfl rfl ?_
  refine v_iconst (v := 1) X dX11_isFit_2 (by decide) ?_
  refine v_callV X hd hle (ct_X11_can _ t p1 1) gCl_X11 (lw_V q1141 q1142 q1143 q125 q1144) ⟨rfl, dn_X11_can⟩ rfl ⟨by decide, by decide⟩ rfl (Nat.le_of_ble_eq_true rfl) dX11_isFit_3 (fun v1 h hd => ?_)
  show V K 2 h 6 [(0, .ref t), (1, .int p1)] [.int (b2i v1)]
  obtain ⟨u2, h1, hd, hd2⟩ := Mo.bind_some hd
  have KJ : V K 2 h1 30 [] [.int (b2i u2)] := by
    clear hd
    have hd := hd2
    exact v_zret X hd rfl ho dX11_isFit_30
  have hle := (Mo.le hd2).tr hle
  clear hd2
  refine v_ifZ_eq (tgt := 29) X dX11_isFit_6 (by decide) (fun q => ?_) (fun q => ?_)
  · have hd := cnd_f q hd
    refine v_iconst (v := 0) X dX11_isFit_29 (by decide) ?_
    exact v_loc [] rfl (v_at (P := fun (u2 : Bool) h => V K 2 h 30 [] [.int (b2i u2)]) hd KJ)
  · have hd := cnd_t q hd
    refine v_aload_n X dX11_isFit_9 0 0 rfl rfl ?_
    refine v_getZ X hd fl_X11_51 dX11_isFit_10 (fun v3 hd => ?_)
    refine v_ifZ_eq (tgt := 25) X dX11_isFit_13 (by decide) (fun q => ?_) (fun q => ?_)
    · have hd := cnd_f q hd
      refine v_iconst (v := 1) X dX11_isFit_25 (by decide) ?_
      refine v_goto (tgt := 30) X dX11_isFit_26 (by decide) ?_
      exact v_loc [] rfl (v_at (P := fun (u2 : Bool) h => V K 2 h 30 [] [.int (b2i u2)]) hd KJ)
    · have hd := cnd_t q hd
      refine v_aload_n X dX11_isFit_16 0 0 rfl rfl ?_
      refine v_iload_n X dX11_isFit_17 1 1 rfl rfl ?_
      refine v_iconst (v := 2) X dX11_isFit_18 (by decide) ?_
      refine v_callV X hd hle (ct_X11_can _ t p1 2) gCl_X11 (lw_V q1141 q1142 q1143 q125 q1144) ⟨rfl, dn_X11_can⟩ rfl ⟨by decide, by decide⟩ rfl (Nat.le_of_ble_eq_true rfl) dX11_isFit_19 (fun v4 h hd => ?_)
      show V K 2 h 22 [(0, .ref t), (1, .int p1)] [.int (b2i v4)]
      refine v_ifZ_eq (tgt := 29) X dX11_isFit_22 (by decide) (fun q => ?_) (fun q => ?_)
      · have hd := cnd_f q hd
        refine v_iconst (v := 0) X dX11_isFit_29 (by decide) ?_
        exact v_loc [] rfl (v_at (P := fun (u2 : Bool) h => V K 2 h 30 [] [.int (b2i u2)]) hd KJ)
      · have hd := cnd_t q hd
        refine v_iconst (v := 1) X dX11_isFit_25 (by decide) ?_
        refine v_goto (tgt := 30) X dX11_isFit_26 (by decide) ?_
        exact v_loc [] rfl (v_at (P := fun (u2 : Bool) h => V K 2 h 30 [] [.int (b2i u2)]) hd KJ)
def dkwX4_domain_2 : List UInt8 := [128, 61, 132, 3, 1, 167, 255, 208, 28, 172]
abbrev dktX4_domain_2 : List UInt8 := dkwX4_domain_2 ++ []
def dkwX4_domain_1 : List UInt8 := [153, 0, 23, 42, 180, 0, 20, 27, 50, 29, 182, 0, 79, 153, 0, 10, 29, 184, 0, 70, 167, 0, 4, 3]
abbrev dktX4_domain_1 : List UInt8 := dkwX4_domain_1 ++ dktX4_domain_2
def dkwX4_domain_0 : List UInt8 := [3, 61, 3, 62, 29, 7, 162, 0, 49, 28, 42, 180, 0, 20, 27, 50, 180, 0, 73, 29, 184, 0, 76]
abbrev dktX4_domain_0 : List UInt8 := dkwX4_domain_0 ++ dktX4_domain_1
theorem dksX4_domain_0 : cX4_domain.data.toList.drop 0 = dktX4_domain_0 := by decide +kernel
theorem dksX4_domain_1 : cX4_domain.data.toList.drop 23 = dktX4_domain_1 := dk_seg dksX4_domain_0 23 rfl rfl
theorem dksX4_domain_2 : cX4_domain.data.toList.drop 47 = dktX4_domain_2 := dk_seg dksX4_domain_1 24 rfl rfl
theorem dX4_domain_0 : decode cX4_domain 0 = .ok (.iconst 0, 1) := dk_3 (dk_at dksX4_domain_0 0 rfl rfl)
theorem dX4_domain_1 : decode cX4_domain 1 = .ok (.istore_n 2, 1) := dk_61 (dk_at dksX4_domain_0 1 rfl rfl)
theorem dX4_domain_2 : decode cX4_domain 2 = .ok (.iconst 0, 1) := dk_3 (dk_at dksX4_domain_0 2 rfl rfl)
theorem dX4_domain_3 : decode cX4_domain 3 = .ok (.istore_n 3, 1) := dk_62 (dk_at dksX4_domain_0 3 rfl rfl)
theorem dX4_domain_4 : decode cX4_domain 4 = .ok (.iload_n 3, 1) := dk_29 (dk_at dksX4_domain_0 4 rfl rfl)
theorem dX4_domain_5 : decode cX4_domain 5 = .ok (.iconst 4, 1) := dk_7 (dk_at dksX4_domain_0 5 rfl rfl)
theorem dX4_domain_6 : decode cX4_domain 6 = .ok (.if_icmp .ge 49, 3) := dk_162 0 49 (dk_at dksX4_domain_0 6 rfl rfl)
theorem dX4_domain_9 : decode cX4_domain 9 = .ok (.iload_n 2, 1) := dk_28 (dk_at dksX4_domain_0 9 rfl rfl)
theorem dX4_domain_10 : decode cX4_domain 10 = .ok (.aload_n 0, 1) := dk_42 (dk_at dksX4_domain_0 10 rfl rfl)
theorem dX4_domain_11 : decode cX4_domain 11 = .ok (.getfield 20, 3) := dk_180 0 20 (dk_at dksX4_domain_0 11 rfl rfl)
theorem dX4_domain_14 : decode cX4_domain 14 = .ok (.iload_n 1, 1) := dk_27 (dk_at dksX4_domain_0 14 rfl rfl)
theorem dX4_domain_15 : decode cX4_domain 15 = .ok (.aaload, 1) := dk_50 (dk_at dksX4_domain_0 15 rfl rfl)
theorem dX4_domain_16 : decode cX4_domain 16 = .ok (.getfield 73, 3) := dk_180 0 73 (dk_at dksX4_domain_0 16 rfl rfl)
theorem dX4_domain_19 : decode cX4_domain 19 = .ok (.iload_n 3, 1) := dk_29 (dk_at dksX4_domain_0 19 rfl rfl)
theorem dX4_domain_20 : decode cX4_domain 20 = .ok (.invokestatic 76, 3) := dk_184 0 76 (dk_at dksX4_domain_0 20 rfl rfl)
theorem dX4_domain_23 : decode cX4_domain 23 = .ok (.ifCond .eq 23, 3) := dk_153 0 23 (dk_at dksX4_domain_1 0 rfl rfl)
theorem dX4_domain_26 : decode cX4_domain 26 = .ok (.aload_n 0, 1) := dk_42 (dk_at dksX4_domain_1 3 rfl rfl)
theorem dX4_domain_27 : decode cX4_domain 27 = .ok (.getfield 20, 3) := dk_180 0 20 (dk_at dksX4_domain_1 4 rfl rfl)
theorem dX4_domain_30 : decode cX4_domain 30 = .ok (.iload_n 1, 1) := dk_27 (dk_at dksX4_domain_1 7 rfl rfl)
theorem dX4_domain_31 : decode cX4_domain 31 = .ok (.aaload, 1) := dk_50 (dk_at dksX4_domain_1 8 rfl rfl)
theorem dX4_domain_32 : decode cX4_domain 32 = .ok (.iload_n 3, 1) := dk_29 (dk_at dksX4_domain_1 9 rfl rfl)
theorem dX4_domain_33 : decode cX4_domain 33 = .ok (.invokevirtual 79, 3) := dk_182 0 79 (dk_at dksX4_domain_1 10 rfl rfl)
theorem dX4_domain_36 : decode cX4_domain 36 = .ok (.ifCond .eq 10, 3) := dk_153 0 10 (dk_at dksX4_domain_1 13 rfl rfl)
theorem dX4_domain_39 : decode cX4_domain 39 = .ok (.iload_n 3, 1) := dk_29 (dk_at dksX4_domain_1 16 rfl rfl)
theorem dX4_domain_40 : decode cX4_domain 40 = .ok (.invokestatic 70, 3) := dk_184 0 70 (dk_at dksX4_domain_1 17 rfl rfl)
theorem dX4_domain_43 : decode cX4_domain 43 = .ok (.goto 4, 3) := dk_167 0 4 (dk_at dksX4_domain_1 20 rfl rfl)
theorem dX4_domain_46 : decode cX4_domain 46 = .ok (.iconst 0, 1) := dk_3 (dk_at dksX4_domain_1 23 rfl rfl)
theorem dX4_domain_47 : decode cX4_domain 47 = .ok (.ior, 1) := dk_128 (dk_at dksX4_domain_2 0 rfl rfl)
theorem dX4_domain_48 : decode cX4_domain 48 = .ok (.istore_n 2, 1) := dk_61 (dk_at dksX4_domain_2 1 rfl rfl)
theorem dX4_domain_49 : decode cX4_domain 49 = .ok (.iinc 3 1, 3) := dk_132 3 1 (dk_at dksX4_domain_2 2 rfl rfl)
theorem dX4_domain_52 : decode cX4_domain 52 = .ok (.goto (-48), 3) := dk_167 255 208 (dk_at dksX4_domain_2 5 rfl rfl)
theorem dX4_domain_55 : decode cX4_domain 55 = .ok (.iload_n 2, 1) := dk_28 (dk_at dksX4_domain_2 8 rfl rfl)
theorem dX4_domain_56 : decode cX4_domain 56 = .ok (.ireturn, 1) := dk_172 (dk_at dksX4_domain_2 9 rfl rfl)
theorem fl_X4_20 : gFl "BitingDoors$House" 20 [3] 2 := by
  intro args s hts hN ci hc
  simp only [List.mem_cons, List.not_mem_nil, or_false] at hc
  subst hc
  exact ⟨RX4, TX4, 9, "BitingDoors$House", gCl_X4, in_X4, by decide, Or.inl (hts _ q271), fun _ h => h⟩
theorem fl_X4_73 : gFl "BitingDoors$House" 73 [9] 9 := by
  intro args s hts hN ci hc
  simp only [List.mem_cons, List.not_mem_nil, or_false] at hc
  subst hc
  exact ⟨RX11, TX11, 12, "BitingDoors$Door", gCl_X11, in_X11, by decide, Or.inr ⟨"BitingDoors", va_Nw.use rfl (hN.1 ("BitingDoors$House", 73, "BitingDoors$Door", "told", "I", "BitingDoors") (List.mem_of_getElem? (i := 34) rfl))⟩, fun _ h => h⟩
theorem dn_X4_domain : yX4_domain.cls ≠ "java/lang/invoke/MethodHandle" ∧ yX4_domain.cls ≠ "java/lang/invoke/VarHandle" ∧ (parseMethodDescriptor yX4_domain.desc).map (fun d => d.parameters.length) = some 1 := by decide +kernel
noncomputable def M_X4_domain (t : Nat) (p1 : Int32) : Mo Int32 := Mo.bind (chk [3] t) (fun _ => Mo.bind (Mo.loop (S := Int32 × Int32) (E := Int32) (fun s1 => if 4 ≤ s1.2 then Mo.pure (Sum.inr s1.1) else Mo.bind (gR [3] t 2) (fun v5 => Mo.bind (aldR 5 v5 p1) (fun v6 => Mo.bind (gI [9] v6 9) (fun v7 => Mo.bind (M_X1_has v7 s1.2) (fun v8 => Mo.bind ((cond v8 (Mo.bind (gR [3] t 2) (fun v12 => Mo.bind (aldR 5 v12 p1) (fun v13 => Mo.bind (M_X11_isFit v13 s1.2) (fun v14 => cond v14 (Mo.bind (M_X1_one s1.2) (fun v15 => Mo.pure v15)) (Mo.pure 0))))) (Mo.pure 0) : Mo (Int32))) (fun u9 => Mo.lv (s1.1 ||| u9) (fun v10 => Mo.lv (s1.2 + 1) (fun v11 => Mo.pure (Sum.inl (v10, v11)))))))))) (0, 0)) (fun e4 => Mo.pure e4))
set_option maxHeartbeats 4000000 in
theorem ct_X4_domain (G : gG) (t : Nat) (p1 : Int32) : gCt G yX4_domain cX4_domain 4 (some .int) 3 64 [.ref t, .int p1] (M_X4_domain t p1) (fun x : Int32 => some (.int x)) := by
  refine gCt.of (by decide) (Nat.le_of_ble_eq_true rfl) (fun K r hG X hd ho => ?_)
  subst hG
  have X : gX K cX4_domain 4 "BitingDoors$House" "domain" (some .int) 3 64 := X
  have hle : gLe (kh1 K) (kh1 K) := gLe.rf
  show V K 4 (kh0 K) 0 [(0, .ref t), (1, .int p1)] []
  generalize kh0 K = h at hd ⊢
  unfold M_X4_domain at hd
  obtain ⟨-, hd⟩ := chk_some hd
  refine v_iconst (v := 0) X dX4_domain_0 (by decide) ?_
  refine v_istore_n (lv2 := [(2, .int 0), (0, .ref t), (1, .int p1)]) X dX4_domain_1 2 rfl (by decide) rfl ?_
  refine v_iconst (v := 0) X dX4_domain_2 (by decide) ?_
  refine v_istore_n (lv2 := [(3, .int 0), (2, .int 0), (0, .ref t), (1, .int p1)]) X dX4_domain_3 3 rfl (by decide) rfl ?_
  obtain ⟨e4, h1, hd, hd2⟩ := Mo.bind_some hd
  have KX : V K 4 h1 55 [(2, .int e4)] [] := by
    clear hd
    have hd := hd2
    refine v_iload_n X dX4_domain_55 0 2 rfl rfl ?_
    exact v_iret X hd ho dX4_domain_56
  have hle := (Mo.le hd2).tr hle
  clear hd2
  refine v_loc [2, 3, 1, 0] rfl ?_
  refine loop_ind hd (fun (s1 : Int32 × Int32) h => V K 4 h 4 [(0, .ref t), (1, .int p1), (2, .int s1.1), (3, .int s1.2)] []) (fun s1 h x h2 hd hle0 ih2 ho3 => ?_)
  have hle := hle0.tr hle
  refine v_iload_n X dX4_domain_4 3 3 rfl rfl ?_
  refine v_iconst (v := 4) X dX4_domain_5 (by decide) ?_
  refine v_icmp_ge (tgt := 55) X dX4_domain_6 (by decide) (fun q => ?_) (fun q => ?_)
  · have hd := ite_t q hd
    exact v_loc [2] rfl (v_at (P := fun (e4 : Int32) h => V K 4 h 55 [(2, .int e4)] []) (lp_out hd ho3) KX)
  · have hd := ite_f q hd
    refine v_iload_n X dX4_domain_9 2 2 rfl rfl ?_
    refine v_aload_n X dX4_domain_10 0 0 rfl rfl ?_
    refine v_getR X hd fl_X4_20 dX4_domain_11 (fun v5 hd => ?_)
    refine v_iload_n X dX4_domain_14 1 1 rfl rfl ?_
    refine v_aldR X hd 5 rfl (by decide) (by decide) dX4_domain_15 (fun v6 hd => ?_)
    refine v_getI X hd fl_X4_73 dX4_domain_16 (fun v7 hd => ?_)
    refine v_iload_n X dX4_domain_19 3 3 rfl rfl ?_
    refine v_callSN (host := "BitingDoors") X hd hle (ct_X1_has _ v7 s1.2) (List.mem_of_getElem? (i := 5) rfl) q900 q899 q109 dn_X1_has rfl ⟨by decide, by decide⟩ rfl (Nat.le_of_ble_eq_true rfl) dX4_domain_20 (fun v8 h hd => ?_)
    show V K 4 h 23 [(0, .ref t), (1, .int p1), (2, .int s1.1), (3, .int s1.2)] [.int (b2i v8), .int s1.1]
    obtain ⟨u9, h1, hd, hd2⟩ := Mo.bind_some hd
    have KJ : V K 4 h1 47 [(0, .ref t), (1, .int p1), (3, .int s1.2)] [.int u9, .int s1.1] := by
      clear hd
      have hd := hd2
      refine v_ior X dX4_domain_47 ?_
      refine v_lvI hd (fun v10 hd => ?_)
      refine v_istore_n (lv2 := [(2, .int v10), (0, .ref t), (1, .int p1), (3, .int s1.2)]) X dX4_domain_48 2 rfl (by decide) rfl ?_
      refine v_iincL (lv2 := fun v11 => [(3, .int v11), (2, .int v10), (0, .ref t), (1, .int p1)]) X hd dX4_domain_49 3 rfl (by decide : Int32.ofInt 1 = 1) (by decide) (fun v11 => rfl) (fun v11 hd => ?_)
      refine v_goto (tgt := 4) X dX4_domain_52 (by decide) ?_
      exact v_loc [2, 3, 1, 0] rfl (lp_in (P := fun (s1 : Int32 × Int32) h => V K 4 h 4 [(0, .ref t), (1, .int p1), (2, .int s1.1), (3, .int s1.2)] []) hd ih2)
    have hle := (Mo.le hd2).tr hle
    clear hd2
    refine v_ifZ_eq (tgt := 46) X dX4_domain_23 (by decide) (fun q => ?_) (fun q => ?_)
    · have hd := cnd_f q hd
      refine v_iconst (v := 0) X dX4_domain_46 (by decide) ?_
      exact v_loc [0, 1, 3] rfl (v_at (P := fun (u9 : Int32) h => V K 4 h 47 [(0, .ref t), (1, .int p1), (3, .int s1.2)] [.int u9, .int s1.1]) hd KJ)
    · have hd := cnd_t q hd
      refine v_aload_n X dX4_domain_26 0 0 rfl rfl ?_
      refine v_getR X hd fl_X4_20 dX4_domain_27 (fun v12 hd => ?_)
      refine v_iload_n X dX4_domain_30 1 1 rfl rfl ?_
      refine v_aldR X hd 5 rfl (by decide) (by decide) dX4_domain_31 (fun v13 hd => ?_)
      refine v_iload_n X dX4_domain_32 3 3 rfl rfl ?_
      refine v_callV X hd hle (ct_X11_isFit _ v13 s1.2) gCl_X11 (lw_V q1181 q1138 q1139 q125 q1140) ⟨rfl, dn_X11_isFit⟩ rfl ⟨by decide, by decide⟩ rfl (Nat.le_of_ble_eq_true rfl) dX4_domain_33 (fun v14 h hd => ?_)
      show V K 4 h 36 [(0, .ref t), (1, .int p1), (2, .int s1.1), (3, .int s1.2)] [.int (b2i v14), .int s1.1]
      refine v_ifZ_eq (tgt := 46) X dX4_domain_36 (by decide) (fun q => ?_) (fun q => ?_)
      · have hd := cnd_f q hd
        refine v_iconst (v := 0) X dX4_domain_46 (by decide) ?_
        exact v_loc [0, 1, 3] rfl (v_at (P := fun (u9 : Int32) h => V K 4 h 47 [(0, .ref t), (1, .int p1), (3, .int s1.2)] [.int u9, .int s1.1]) hd KJ)
      · have hd := cnd_t q hd
        refine v_iload_n X dX4_domain_39 3 3 rfl rfl ?_
        refine v_callSN (host := "BitingDoors") X hd hle (ct_X1_one _ s1.2) (List.mem_of_getElem? (i := 4) rfl) q896 q895 q109 dn_X1_one rfl ⟨by decide, by decide⟩ rfl (Nat.le_of_ble_eq_true rfl) dX4_domain_40 (fun v15 h hd => ?_)
        show V K 4 h 43 [(0, .ref t), (1, .int p1), (2, .int s1.1), (3, .int s1.2)] [.int v15, .int s1.1]
        refine v_goto (tgt := 47) X dX4_domain_43 (by decide) ?_
        exact v_loc [0, 1, 3] rfl (v_at (P := fun (u9 : Int32) h => V K 4 h 47 [(0, .ref t), (1, .int p1), (3, .int s1.2)] [.int u9, .int s1.1]) hd KJ)
def dkwX1_domains_1 : List UInt8 := [180, 0, 90, 180, 0, 243, 27, 182, 1, 80, 79, 132, 1, 1, 167, 255, 222, 177]
abbrev dktX1_domains_1 : List UInt8 := dkwX1_domains_1 ++ []
def dkwX1_domains_0 : List UInt8 := [3, 60, 27, 42, 180, 0, 90, 180, 0, 243, 180, 0, 247, 162, 0, 26, 42, 180, 0, 120, 27, 42]
abbrev dktX1_domains_0 : List UInt8 := dkwX1_domains_0 ++ dktX1_domains_1
theorem dksX1_domains_0 : cX1_domains.data.toList.drop 0 = dktX1_domains_0 := by decide +kernel
theorem dksX1_domains_1 : cX1_domains.data.toList.drop 22 = dktX1_domains_1 := dk_seg dksX1_domains_0 22 rfl rfl
theorem dX1_domains_0 : decode cX1_domains 0 = .ok (.iconst 0, 1) := dk_3 (dk_at dksX1_domains_0 0 rfl rfl)
theorem dX1_domains_1 : decode cX1_domains 1 = .ok (.istore_n 1, 1) := dk_60 (dk_at dksX1_domains_0 1 rfl rfl)
theorem dX1_domains_2 : decode cX1_domains 2 = .ok (.iload_n 1, 1) := dk_27 (dk_at dksX1_domains_0 2 rfl rfl)
theorem dX1_domains_3 : decode cX1_domains 3 = .ok (.aload_n 0, 1) := dk_42 (dk_at dksX1_domains_0 3 rfl rfl)
theorem dX1_domains_4 : decode cX1_domains 4 = .ok (.getfield 90, 3) := dk_180 0 90 (dk_at dksX1_domains_0 4 rfl rfl)
theorem dX1_domains_7 : decode cX1_domains 7 = .ok (.getfield 243, 3) := dk_180 0 243 (dk_at dksX1_domains_0 7 rfl rfl)
theorem dX1_domains_10 : decode cX1_domains 10 = .ok (.getfield 247, 3) := dk_180 0 247 (dk_at dksX1_domains_0 10 rfl rfl)
theorem dX1_domains_13 : decode cX1_domains 13 = .ok (.if_icmp .ge 26, 3) := dk_162 0 26 (dk_at dksX1_domains_0 13 rfl rfl)
theorem dX1_domains_16 : decode cX1_domains 16 = .ok (.aload_n 0, 1) := dk_42 (dk_at dksX1_domains_0 16 rfl rfl)
theorem dX1_domains_17 : decode cX1_domains 17 = .ok (.getfield 120, 3) := dk_180 0 120 (dk_at dksX1_domains_0 17 rfl rfl)
theorem dX1_domains_20 : decode cX1_domains 20 = .ok (.iload_n 1, 1) := dk_27 (dk_at dksX1_domains_0 20 rfl rfl)
theorem dX1_domains_21 : decode cX1_domains 21 = .ok (.aload_n 0, 1) := dk_42 (dk_at dksX1_domains_0 21 rfl rfl)
theorem dX1_domains_22 : decode cX1_domains 22 = .ok (.getfield 90, 3) := dk_180 0 90 (dk_at dksX1_domains_1 0 rfl rfl)
theorem dX1_domains_25 : decode cX1_domains 25 = .ok (.getfield 243, 3) := dk_180 0 243 (dk_at dksX1_domains_1 3 rfl rfl)
theorem dX1_domains_28 : decode cX1_domains 28 = .ok (.iload_n 1, 1) := dk_27 (dk_at dksX1_domains_1 6 rfl rfl)
theorem dX1_domains_29 : decode cX1_domains 29 = .ok (.invokevirtual 336, 3) := dk_182 1 80 (dk_at dksX1_domains_1 7 rfl rfl)
theorem dX1_domains_32 : decode cX1_domains 32 = .ok (.iastore, 1) := dk_79 (dk_at dksX1_domains_1 10 rfl rfl)
theorem dX1_domains_33 : decode cX1_domains 33 = .ok (.iinc 1 1, 3) := dk_132 1 1 (dk_at dksX1_domains_1 11 rfl rfl)
theorem dX1_domains_36 : decode cX1_domains 36 = .ok (.goto (-34), 3) := dk_167 255 222 (dk_at dksX1_domains_1 14 rfl rfl)
theorem dX1_domains_39 : decode cX1_domains 39 = .ok (.return_, 1) := dk_177 (dk_at dksX1_domains_1 17 rfl rfl)
theorem dn_X1_domains : yX1_domains.cls ≠ "java/lang/invoke/MethodHandle" ∧ yX1_domains.cls ≠ "java/lang/invoke/VarHandle" ∧ (parseMethodDescriptor yX1_domains.desc).map (fun d => d.parameters.length) = some 0 := by decide +kernel
noncomputable def M_X1_domains (t : Nat) : Mo Unit := Mo.bind (chk [0] t) (fun _ => Mo.bind (Mo.loop (S := Int32) (E := Unit) (fun s1 => Mo.bind (gR [0] t 9) (fun v5 => Mo.bind (gR [2] v5 0) (fun v6 => Mo.bind (gI [3] v6 6) (fun v7 => if v7 ≤ s1 then Mo.pure (Sum.inr ()) else Mo.bind (gR [0] t 15) (fun v8 => Mo.bind (gR [0] t 9) (fun v9 => Mo.bind (gR [2] v9 0) (fun v10 => Mo.bind (M_X4_domain v10 s1) (fun v11 => Mo.bind (astI 0 v8 s1 v11) (fun _ => Mo.lv (s1 + 1) (fun v12 => Mo.pure (Sum.inl v12))))))))))) 0) (fun e4 => Mo.pure ()))
set_option maxHeartbeats 4000000 in
theorem ct_X1_domains (G : gG) (t : Nat) : gCt G yX1_domains cX1_domains 2 none 4 87 [.ref t] (M_X1_domains t) (fun _ : Unit => none) := by
  refine gCt.of (by decide) (Nat.le_of_ble_eq_true rfl) (fun K r hG X hd ho => ?_)
  subst hG
  have X : gX K cX1_domains 2 "BitingDoors" "domains" none 4 87 := X
  have hle : gLe (kh1 K) (kh1 K) := gLe.rf
  show V K 2 (kh0 K) 0 [(0, .ref t)] []
  generalize kh0 K = h at hd ⊢
  unfold M_X1_domains at hd
  obtain ⟨-, hd⟩ := chk_some hd
  refine v_iconst (v := 0) X dX1_domains_0 (by decide) ?_
  refine v_istore_n (lv2 := [(1, .int 0), (0, .ref t)]) X dX1_domains_1 1 rfl (by decide) rfl ?_
  obtain ⟨e4, h1, hd, hd2⟩ := Mo.bind_some hd
  have KX : V K 2 h1 39 [] [] := by
    clear hd
    have hd := hd2
    exact v_vret X hd ho dX1_domains_39
  have hle := (Mo.le hd2).tr hle
  clear hd2
  refine v_loc [1, 0] rfl ?_
  refine loop_ind hd (fun (s1 : Int32) h => V K 2 h 2 [(0, .ref t), (1, .int s1)] []) (fun s1 h x h2 hd hle0 ih2 ho3 => ?_)
  have hle := hle0.tr hle
  refine v_iload_n X dX1_domains_2 1 1 rfl rfl ?_
  refine v_aload_n X dX1_domains_3 0 0 rfl rfl ?_
  refine v_getR X hd fl_X1_90 dX1_domains_4 (fun v5 hd => ?_)
  refine v_getR X hd fl_X1_243 dX1_domains_7 (fun v6 hd => ?_)
  refine v_getI X hd fl_X1_247 dX1_domains_10 (fun v7 hd => ?_)
  refine v_icmp_ge (tgt := 39) X dX1_domains_13 (by decide) (fun q => ?_) (fun q => ?_)
  · have hd := ite_t q hd
    exact v_loc [] rfl (v_at (P := fun (e4 : Unit) h => V K 2 h 39 [] []) (lp_out hd ho3) KX)
  · have hd := ite_f q hd
    refine v_aload_n X dX1_domains_16 0 0 rfl rfl ?_
    refine v_getR X hd fl_X1_120 dX1_domains_17 (fun v8 hd => ?_)
    refine v_iload_n X dX1_domains_20 1 1 rfl rfl ?_
    refine v_aload_n X dX1_domains_21 0 0 rfl rfl ?_
    refine v_getR X hd fl_X1_90 dX1_domains_22 (fun v9 hd => ?_)
    refine v_getR X hd fl_X1_243 dX1_domains_25 (fun v10 hd => ?_)
    refine v_iload_n X dX1_domains_28 1 1 rfl rfl ?_
    refine v_callV X hd hle (ct_X4_domain _ v10 s1) gCl_X4 (lw_V q1176 q1177 q1178 q114 q1179) ⟨rfl, dn_X4_domain⟩ rfl ⟨by decide, by decide⟩ rfl (Nat.le_of_ble_eq_true rfl) dX1_domains_29 (fun v11 h hd => ?_)
    show V K 2 h 32 [(0, .ref t), (1, .int s1)] [.int v11, .int s1, .ref v8]
    refine v_iast X hd dX1_domains_32 (fun h hd => ?_)
    refine v_iincL (lv2 := fun v12 => [(1, .int v12), (0, .ref t)]) X hd dX1_domains_33 1 rfl (by decide : Int32.ofInt 1 = 1) (by decide) (fun v12 => rfl) (fun v12 hd => ?_)
    refine v_goto (tgt := 2) X dX1_domains_36 (by decide) ?_
    exact v_loc [1, 0] rfl (lp_in (P := fun (s1 : Int32) h => V K 2 h 2 [(0, .ref t), (1, .int s1)] []) hd ih2)
def dkwX1_findCheapest_1 : List UInt8 := [180, 1, 83, 19, 1, 104, 162, 0, 7, 4, 167, 0, 4, 3, 172]
abbrev dktX1_findCheapest_1 : List UInt8 := dkwX1_findCheapest_1 ++ []
def dkwX1_findCheapest_0 : List UInt8 := [42, 182, 1, 102, 42, 19, 1, 104, 181, 1, 83, 42, 3, 181, 1, 86, 42, 3, 3, 3, 182, 1, 98, 42]
abbrev dktX1_findCheapest_0 : List UInt8 := dkwX1_findCheapest_0 ++ dktX1_findCheapest_1
theorem dksX1_findCheapest_0 : cX1_findCheapest.data.toList.drop 0 = dktX1_findCheapest_0 := by decide +kernel
theorem dksX1_findCheapest_1 : cX1_findCheapest.data.toList.drop 24 = dktX1_findCheapest_1 := dk_seg dksX1_findCheapest_0 24 rfl rfl
theorem dX1_findCheapest_0 : decode cX1_findCheapest 0 = .ok (.aload_n 0, 1) := dk_42 (dk_at dksX1_findCheapest_0 0 rfl rfl)
theorem dX1_findCheapest_1 : decode cX1_findCheapest 1 = .ok (.invokevirtual 358, 3) := dk_182 1 102 (dk_at dksX1_findCheapest_0 1 rfl rfl)
theorem dX1_findCheapest_4 : decode cX1_findCheapest 4 = .ok (.aload_n 0, 1) := dk_42 (dk_at dksX1_findCheapest_0 4 rfl rfl)
theorem dX1_findCheapest_5 : decode cX1_findCheapest 5 = .ok (.ldc_w 360, 3) := dk_19 1 104 (dk_at dksX1_findCheapest_0 5 rfl rfl)
theorem dX1_findCheapest_8 : decode cX1_findCheapest 8 = .ok (.putfield 339, 3) := dk_181 1 83 (dk_at dksX1_findCheapest_0 8 rfl rfl)
theorem dX1_findCheapest_11 : decode cX1_findCheapest 11 = .ok (.aload_n 0, 1) := dk_42 (dk_at dksX1_findCheapest_0 11 rfl rfl)
theorem dX1_findCheapest_12 : decode cX1_findCheapest 12 = .ok (.iconst 0, 1) := dk_3 (dk_at dksX1_findCheapest_0 12 rfl rfl)
theorem dX1_findCheapest_13 : decode cX1_findCheapest 13 = .ok (.putfield 342, 3) := dk_181 1 86 (dk_at dksX1_findCheapest_0 13 rfl rfl)
theorem dX1_findCheapest_16 : decode cX1_findCheapest 16 = .ok (.aload_n 0, 1) := dk_42 (dk_at dksX1_findCheapest_0 16 rfl rfl)
theorem dX1_findCheapest_17 : decode cX1_findCheapest 17 = .ok (.iconst 0, 1) := dk_3 (dk_at dksX1_findCheapest_0 17 rfl rfl)
theorem dX1_findCheapest_18 : decode cX1_findCheapest 18 = .ok (.iconst 0, 1) := dk_3 (dk_at dksX1_findCheapest_0 18 rfl rfl)
theorem dX1_findCheapest_19 : decode cX1_findCheapest 19 = .ok (.iconst 0, 1) := dk_3 (dk_at dksX1_findCheapest_0 19 rfl rfl)
theorem dX1_findCheapest_20 : decode cX1_findCheapest 20 = .ok (.invokevirtual 354, 3) := dk_182 1 98 (dk_at dksX1_findCheapest_0 20 rfl rfl)
theorem dX1_findCheapest_23 : decode cX1_findCheapest 23 = .ok (.aload_n 0, 1) := dk_42 (dk_at dksX1_findCheapest_0 23 rfl rfl)
theorem dX1_findCheapest_24 : decode cX1_findCheapest 24 = .ok (.getfield 339, 3) := dk_180 1 83 (dk_at dksX1_findCheapest_1 0 rfl rfl)
theorem dX1_findCheapest_27 : decode cX1_findCheapest 27 = .ok (.ldc_w 360, 3) := dk_19 1 104 (dk_at dksX1_findCheapest_1 3 rfl rfl)
theorem dX1_findCheapest_30 : decode cX1_findCheapest 30 = .ok (.if_icmp .ge 7, 3) := dk_162 0 7 (dk_at dksX1_findCheapest_1 6 rfl rfl)
theorem dX1_findCheapest_33 : decode cX1_findCheapest 33 = .ok (.iconst 1, 1) := dk_4 (dk_at dksX1_findCheapest_1 9 rfl rfl)
theorem dX1_findCheapest_34 : decode cX1_findCheapest 34 = .ok (.goto 4, 3) := dk_167 0 4 (dk_at dksX1_findCheapest_1 10 rfl rfl)
theorem dX1_findCheapest_37 : decode cX1_findCheapest 37 = .ok (.iconst 0, 1) := dk_3 (dk_at dksX1_findCheapest_1 13 rfl rfl)
theorem dX1_findCheapest_38 : decode cX1_findCheapest 38 = .ok (.ireturn, 1) := dk_172 (dk_at dksX1_findCheapest_1 14 rfl rfl)
theorem dn_X1_findCheapest : yX1_findCheapest.cls ≠ "java/lang/invoke/MethodHandle" ∧ yX1_findCheapest.cls ≠ "java/lang/invoke/VarHandle" ∧ (parseMethodDescriptor yX1_findCheapest.desc).map (fun d => d.parameters.length) = some 0 := by decide +kernel
noncomputable def M_X1_findCheapest (t : Nat) : Mo Bool := Mo.bind (chk [0] t) (fun _ => Mo.bind (M_X1_domains t) (fun v1 => Mo.bind (pF [0] t 18 (.int 1000000000)) (fun _ => Mo.bind (pF [0] t 19 (.int 0)) (fun _ => Mo.bind (M_X1_cheapest_2 12 t 0 0 0) (fun v2 => Mo.bind (gI [0] t 18) (fun v3 => Mo.bind ((if 1000000000 ≤ v3 then Mo.pure false else Mo.pure true : Mo (Bool))) (fun u4 => Mo.pure u4)))))))
set_option maxHeartbeats 4000000 in
theorem ct_X1_findCheapest (G : gG) (t : Nat) : gCt G yX1_findCheapest cX1_findCheapest 1 (some .boolean) 15 385 [.ref t] (M_X1_findCheapest t) (fun x : Bool => some (.int (b2i x))) := by
  refine gCt.of (by decide) (Nat.le_of_ble_eq_true rfl) (fun K r hG X hd ho => ?_)
  subst hG
  have X : gX K cX1_findCheapest 1 "BitingDoors" "findCheapest" (some .boolean) 15 385 := X
  have hle : gLe (kh1 K) (kh1 K) := gLe.rf
  show V K 1 (kh0 K) 0 [(0, .ref t)] []
  generalize kh0 K = h at hd ⊢
  unfold M_X1_findCheapest at hd
  obtain ⟨-, hd⟩ := chk_some hd
  refine v_aload_n X dX1_findCheapest_0 0 0 rfl rfl ?_
  refine v_callV X hd hle (ct_X1_domains _ t) gCl_X1 (lw_V q1172 q1174 qs16 q109 q1175) ⟨rfl, dn_X1_domains⟩ rfl ⟨by decide, by decide⟩ rfl (Nat.le_of_ble_eq_true rfl) dX1_findCheapest_1 (fun v1 h hd => ?_)
  show V K 1 h 4 [(0, .ref t)] []
  refine v_aload_n X dX1_findCheapest_4 0 0 rfl rfl ?_
  refine v_ldcw X q1182 dX1_findCheapest_5 ?_
  refine v_put (v := .int 1000000000) X hd fp_X1_339 rfl rfl dX1_findCheapest_8 (fun h hd => ?_)
  refine v_aload_n X dX1_findCheapest_11 0 0 rfl rfl ?_
  refine v_iconst (v := 0) X dX1_findCheapest_12 (by decide) ?_
  refine v_put (v := .int 0) X hd fp_X1_342 rfl rfl dX1_findCheapest_13 (fun h hd => ?_)
  refine v_aload_n X dX1_findCheapest_16 0 0 rfl rfl ?_
  refine v_iconst (v := 0) X dX1_findCheapest_17 (by decide) ?_
  refine v_iconst (v := 0) X dX1_findCheapest_18 (by decide) ?_
  refine v_iconst (v := 0) X dX1_findCheapest_19 (by decide) ?_
  refine v_callV X hd hle (ct_X1_cheapest_2 _ 12 t 0 0 0) gCl_X1 (lw_V q1183 q1185 qs17 q109 q1186) ⟨rfl, dn_X1_cheapest_2⟩ rfl ⟨by decide, by decide⟩ rfl (Nat.le_of_ble_eq_true rfl) dX1_findCheapest_20 (fun v2 h hd => ?_)
  show V K 1 h 23 [(0, .ref t)] []
  refine v_aload_n X dX1_findCheapest_23 0 0 rfl rfl ?_
  refine v_getI X hd fl_X1_339 dX1_findCheapest_24 (fun v3 hd => ?_)
  refine v_ldcw X q1182 dX1_findCheapest_27 ?_
  obtain ⟨u4, h1, hd, hd2⟩ := Mo.bind_some hd
  have KJ : V K 1 h1 38 [] [.int (b2i u4)] := by
    clear hd
    have hd := hd2
    exact v_zret X hd rfl ho dX1_findCheapest_38
  have hle := (Mo.le hd2).tr hle
  clear hd2
  refine v_icmp_ge (tgt := 37) X dX1_findCheapest_30 (by decide) (fun q => ?_) (fun q => ?_)
  · have hd := ite_t q hd
    refine v_iconst (v := 0) X dX1_findCheapest_37 (by decide) ?_
    exact v_loc [] rfl (v_at (P := fun (u4 : Bool) h => V K 1 h 38 [] [.int (b2i u4)]) hd KJ)
  · have hd := ite_f q hd
    refine v_iconst (v := 1) X dX1_findCheapest_33 (by decide) ?_
    refine v_goto (tgt := 38) X dX1_findCheapest_34 (by decide) ?_
    exact v_loc [] rfl (v_at (P := fun (u4 : Bool) h => V K 1 h 38 [] [.int (b2i u4)]) hd KJ)
def dkwX1_hung_1 : List UInt8 := [2, 172]
abbrev dktX1_hung_1 : List UInt8 := dkwX1_hung_1 ++ []
def dkwX1_hung_0 : List UInt8 := [42, 27, 182, 1, 7, 153, 0, 19, 42, 182, 1, 105, 153, 0, 12, 42, 180, 0, 127, 27, 46, 167, 0, 4]
abbrev dktX1_hung_0 : List UInt8 := dkwX1_hung_0 ++ dktX1_hung_1
theorem dksX1_hung_0 : cX1_hung.data.toList.drop 0 = dktX1_hung_0 := by decide +kernel
theorem dksX1_hung_1 : cX1_hung.data.toList.drop 24 = dktX1_hung_1 := dk_seg dksX1_hung_0 24 rfl rfl
theorem dX1_hung_0 : decode cX1_hung 0 = .ok (.aload_n 0, 1) := dk_42 (dk_at dksX1_hung_0 0 rfl rfl)
theorem dX1_hung_1 : decode cX1_hung 1 = .ok (.iload_n 1, 1) := dk_27 (dk_at dksX1_hung_0 1 rfl rfl)
theorem dX1_hung_2 : decode cX1_hung 2 = .ok (.invokevirtual 263, 3) := dk_182 1 7 (dk_at dksX1_hung_0 2 rfl rfl)
theorem dX1_hung_5 : decode cX1_hung 5 = .ok (.ifCond .eq 19, 3) := dk_153 0 19 (dk_at dksX1_hung_0 5 rfl rfl)
theorem dX1_hung_8 : decode cX1_hung 8 = .ok (.aload_n 0, 1) := dk_42 (dk_at dksX1_hung_0 8 rfl rfl)
theorem dX1_hung_9 : decode cX1_hung 9 = .ok (.invokevirtual 361, 3) := dk_182 1 105 (dk_at dksX1_hung_0 9 rfl rfl)
theorem dX1_hung_12 : decode cX1_hung 12 = .ok (.ifCond .eq 12, 3) := dk_153 0 12 (dk_at dksX1_hung_0 12 rfl rfl)
theorem dX1_hung_15 : decode cX1_hung 15 = .ok (.aload_n 0, 1) := dk_42 (dk_at dksX1_hung_0 15 rfl rfl)
theorem dX1_hung_16 : decode cX1_hung 16 = .ok (.getfield 127, 3) := dk_180 0 127 (dk_at dksX1_hung_0 16 rfl rfl)
theorem dX1_hung_19 : decode cX1_hung 19 = .ok (.iload_n 1, 1) := dk_27 (dk_at dksX1_hung_0 19 rfl rfl)
theorem dX1_hung_20 : decode cX1_hung 20 = .ok (.iaload, 1) := dk_46 (dk_at dksX1_hung_0 20 rfl rfl)
theorem dX1_hung_21 : decode cX1_hung 21 = .ok (.goto 4, 3) := dk_167 0 4 (dk_at dksX1_hung_0 21 rfl rfl)
theorem dX1_hung_24 : decode cX1_hung 24 = .ok (.iconst (-1), 1) := dk_2 (dk_at dksX1_hung_1 0 rfl rfl)
theorem dX1_hung_25 : decode cX1_hung 25 = .ok (.ireturn, 1) := dk_172 (dk_at dksX1_hung_1 1 rfl rfl)
theorem dn_X1_hung : yX1_hung.cls ≠ "java/lang/invoke/MethodHandle" ∧ yX1_hung.cls ≠ "java/lang/invoke/VarHandle" ∧ (parseMethodDescriptor yX1_hung.desc).map (fun d => d.parameters.length) = some 1 := by decide +kernel
noncomputable def M_X1_hung (t : Nat) (p1 : Int32) : Mo Int32 := Mo.bind (chk [0] t) (fun _ => Mo.bind (M_X1_isDoor t p1) (fun v1 => Mo.bind ((cond v1 (Mo.bind (M_X1_findCheapest t) (fun v3 => cond v3 (Mo.bind (gR [0] t 17) (fun v4 => Mo.bind (aldI 0 v4 p1) (fun v5 => Mo.pure v5))) (Mo.pure (-1)))) (Mo.pure (-1)) : Mo (Int32))) (fun u2 => Mo.pure u2)))
set_option maxHeartbeats 4000000 in
theorem ct_X1_hung (G : gG) (t : Nat) (p1 : Int32) : gCt G yX1_hung cX1_hung 2 (some .int) 16 405 [.ref t, .int p1] (M_X1_hung t p1) (fun x : Int32 => some (.int x)) := by
  refine gCt.of (by decide) (Nat.le_of_ble_eq_true rfl) (fun K r hG X hd ho => ?_)
  subst hG
  have X : gX K cX1_hung 2 "BitingDoors" "hung" (some .int) 16 405 := X
  have hle : gLe (kh1 K) (kh1 K) := gLe.rf
  show V K 2 (kh0 K) 0 [(0, .ref t), (1, .int p1)] []
  generalize kh0 K = h at hd ⊢
  unfold M_X1_hung at hd
  obtain ⟨-, hd⟩ := chk_some hd
  refine v_aload_n X dX1_hung_0 0 0 rfl rfl ?_
  refine v_iload_n X dX1_hung_1 1 1 rfl rfl ?_
  refine v_callV X hd hle (ct_X1_isDoor _ t p1) gCl_X1 (lw_V q1115 q1117 qs12 q109 q1118) ⟨rfl, dn_X1_isDoor⟩ rfl ⟨by decide, by decide⟩ rfl (Nat.le_of_ble_eq_true rfl) dX1_hung_2 (fun v1 h hd => ?_)
  show V K 2 h 5 [(0, .ref t), (1, .int p1)] [.int (b2i v1)]
  obtain ⟨u2, h1, hd, hd2⟩ := Mo.bind_some hd
  have KJ : V K 2 h1 25 [] [.int u2] := by
    clear hd
    have hd := hd2
    exact v_iret X hd ho dX1_hung_25
  have hle := (Mo.le hd2).tr hle
  clear hd2
  refine v_ifZ_eq (tgt := 24) X dX1_hung_5 (by decide) (fun q => ?_) (fun q => ?_)
  · have hd := cnd_f q hd
    refine v_iconst (v := (-1)) X dX1_hung_24 (by decide) ?_
    exact v_loc [] rfl (v_at (P := fun (u2 : Int32) h => V K 2 h 25 [] [.int u2]) hd KJ)
  · have hd := cnd_t q hd
    refine v_aload_n X dX1_hung_8 0 0 rfl rfl ?_
    refine v_callV X hd hle (ct_X1_findCheapest _ t) gCl_X1 (lw_V q1168 q1170 qs15 q109 q1171) ⟨rfl, dn_X1_findCheapest⟩ rfl ⟨by decide, by decide⟩ rfl (Nat.le_of_ble_eq_true rfl) dX1_hung_9 (fun v3 h hd => ?_)
    show V K 2 h 12 [(0, .ref t), (1, .int p1)] [.int (b2i v3)]
    refine v_ifZ_eq (tgt := 24) X dX1_hung_12 (by decide) (fun q => ?_) (fun q => ?_)
    · have hd := cnd_f q hd
      refine v_iconst (v := (-1)) X dX1_hung_24 (by decide) ?_
      exact v_loc [] rfl (v_at (P := fun (u2 : Int32) h => V K 2 h 25 [] [.int u2]) hd KJ)
    · have hd := cnd_t q hd
      refine v_aload_n X dX1_hung_15 0 0 rfl rfl ?_
      refine v_getR X hd fl_X1_127 dX1_hung_16 (fun v4 hd => ?_)
      refine v_iload_n X dX1_hung_19 1 1 rfl rfl ?_
      refine v_iald X hd dX1_hung_20 (fun v5 hd => ?_)
      refine v_goto (tgt := 25) X dX1_hung_21 (by decide) ?_
      exact v_loc [] rfl (v_at (P := fun (u2 : Int32) h => V K 2 h 25 [] [.int u2]) hd KJ)
def dkwX1_isHungWell_3 : List UInt8 := [29, 79, 42, 27, 4, 96, 28, 182, 1, 141, 153, 0, 5, 4, 172, 132, 3, 1, 167, 255, 202, 3, 172]
abbrev dktX1_isHungWell_3 : List UInt8 := dkwX1_isHungWell_3 ++ []
def dkwX1_isHungWell_2 : List UInt8 := [184, 1, 73, 153, 0, 36, 42, 27, 29, 28, 182, 1, 95, 153, 0, 6, 167, 0, 23, 42, 180, 0, 124, 27]
abbrev dktX1_isHungWell_2 : List UInt8 := dkwX1_isHungWell_2 ++ dktX1_isHungWell_3
def dkwX1_isHungWell_1 : List UInt8 := [42, 27, 4, 96, 28, 182, 1, 141, 172, 3, 62, 29, 7, 162, 0, 55, 42, 180, 0, 120, 27, 46, 29]
abbrev dktX1_isHungWell_1 : List UInt8 := dkwX1_isHungWell_1 ++ dktX1_isHungWell_2
def dkwX1_isHungWell_0 : List UInt8 := [27, 42, 180, 0, 90, 180, 0, 243, 180, 0, 247, 160, 0, 5, 4, 172, 28, 27, 184, 1, 73, 154, 0, 12]
abbrev dktX1_isHungWell_0 : List UInt8 := dkwX1_isHungWell_0 ++ dktX1_isHungWell_1
theorem dksX1_isHungWell_0 : cX1_isHungWell.data.toList.drop 0 = dktX1_isHungWell_0 := by decide +kernel
theorem dksX1_isHungWell_1 : cX1_isHungWell.data.toList.drop 24 = dktX1_isHungWell_1 := dk_seg dksX1_isHungWell_0 24 rfl rfl
theorem dksX1_isHungWell_2 : cX1_isHungWell.data.toList.drop 47 = dktX1_isHungWell_2 := dk_seg dksX1_isHungWell_1 23 rfl rfl
theorem dksX1_isHungWell_3 : cX1_isHungWell.data.toList.drop 71 = dktX1_isHungWell_3 := dk_seg dksX1_isHungWell_2 24 rfl rfl
theorem dX1_isHungWell_0 : decode cX1_isHungWell 0 = .ok (.iload_n 1, 1) := dk_27 (dk_at dksX1_isHungWell_0 0 rfl rfl)
theorem dX1_isHungWell_1 : decode cX1_isHungWell 1 = .ok (.aload_n 0, 1) := dk_42 (dk_at dksX1_isHungWell_0 1 rfl rfl)
theorem dX1_isHungWell_2 : decode cX1_isHungWell 2 = .ok (.getfield 90, 3) := dk_180 0 90 (dk_at dksX1_isHungWell_0 2 rfl rfl)
theorem dX1_isHungWell_5 : decode cX1_isHungWell 5 = .ok (.getfield 243, 3) := dk_180 0 243 (dk_at dksX1_isHungWell_0 5 rfl rfl)
theorem dX1_isHungWell_8 : decode cX1_isHungWell 8 = .ok (.getfield 247, 3) := dk_180 0 247 (dk_at dksX1_isHungWell_0 8 rfl rfl)
theorem dX1_isHungWell_11 : decode cX1_isHungWell 11 = .ok (.if_icmp .ne 5, 3) := dk_160 0 5 (dk_at dksX1_isHungWell_0 11 rfl rfl)
theorem dX1_isHungWell_14 : decode cX1_isHungWell 14 = .ok (.iconst 1, 1) := dk_4 (dk_at dksX1_isHungWell_0 14 rfl rfl)
theorem dX1_isHungWell_15 : decode cX1_isHungWell 15 = .ok (.ireturn, 1) := dk_172 (dk_at dksX1_isHungWell_0 15 rfl rfl)
theorem dX1_isHungWell_16 : decode cX1_isHungWell 16 = .ok (.iload_n 2, 1) := dk_28 (dk_at dksX1_isHungWell_0 16 rfl rfl)
theorem dX1_isHungWell_17 : decode cX1_isHungWell 17 = .ok (.iload_n 1, 1) := dk_27 (dk_at dksX1_isHungWell_0 17 rfl rfl)
theorem dX1_isHungWell_18 : decode cX1_isHungWell 18 = .ok (.invokestatic 329, 3) := dk_184 1 73 (dk_at dksX1_isHungWell_0 18 rfl rfl)
theorem dX1_isHungWell_21 : decode cX1_isHungWell 21 = .ok (.ifCond .ne 12, 3) := dk_154 0 12 (dk_at dksX1_isHungWell_0 21 rfl rfl)
theorem dX1_isHungWell_24 : decode cX1_isHungWell 24 = .ok (.aload_n 0, 1) := dk_42 (dk_at dksX1_isHungWell_1 0 rfl rfl)
theorem dX1_isHungWell_25 : decode cX1_isHungWell 25 = .ok (.iload_n 1, 1) := dk_27 (dk_at dksX1_isHungWell_1 1 rfl rfl)
theorem dX1_isHungWell_26 : decode cX1_isHungWell 26 = .ok (.iconst 1, 1) := dk_4 (dk_at dksX1_isHungWell_1 2 rfl rfl)
theorem dX1_isHungWell_27 : decode cX1_isHungWell 27 = .ok (.iadd, 1) := dk_96 (dk_at dksX1_isHungWell_1 3 rfl rfl)
theorem dX1_isHungWell_28 : decode cX1_isHungWell 28 = .ok (.iload_n 2, 1) := dk_28 (dk_at dksX1_isHungWell_1 4 rfl rfl)
theorem dX1_isHungWell_29 : decode cX1_isHungWell 29 = .ok (.invokevirtual 397, 3) := dk_182 1 141 (dk_at dksX1_isHungWell_1 5 rfl rfl)
theorem dX1_isHungWell_32 : decode cX1_isHungWell 32 = .ok (.ireturn, 1) := dk_172 (dk_at dksX1_isHungWell_1 8 rfl rfl)
theorem dX1_isHungWell_33 : decode cX1_isHungWell 33 = .ok (.iconst 0, 1) := dk_3 (dk_at dksX1_isHungWell_1 9 rfl rfl)
theorem dX1_isHungWell_34 : decode cX1_isHungWell 34 = .ok (.istore_n 3, 1) := dk_62 (dk_at dksX1_isHungWell_1 10 rfl rfl)
theorem dX1_isHungWell_35 : decode cX1_isHungWell 35 = .ok (.iload_n 3, 1) := dk_29 (dk_at dksX1_isHungWell_1 11 rfl rfl)
theorem dX1_isHungWell_36 : decode cX1_isHungWell 36 = .ok (.iconst 4, 1) := dk_7 (dk_at dksX1_isHungWell_1 12 rfl rfl)
theorem dX1_isHungWell_37 : decode cX1_isHungWell 37 = .ok (.if_icmp .ge 55, 3) := dk_162 0 55 (dk_at dksX1_isHungWell_1 13 rfl rfl)
theorem dX1_isHungWell_40 : decode cX1_isHungWell 40 = .ok (.aload_n 0, 1) := dk_42 (dk_at dksX1_isHungWell_1 16 rfl rfl)
theorem dX1_isHungWell_41 : decode cX1_isHungWell 41 = .ok (.getfield 120, 3) := dk_180 0 120 (dk_at dksX1_isHungWell_1 17 rfl rfl)
theorem dX1_isHungWell_44 : decode cX1_isHungWell 44 = .ok (.iload_n 1, 1) := dk_27 (dk_at dksX1_isHungWell_1 20 rfl rfl)
theorem dX1_isHungWell_45 : decode cX1_isHungWell 45 = .ok (.iaload, 1) := dk_46 (dk_at dksX1_isHungWell_1 21 rfl rfl)
theorem dX1_isHungWell_46 : decode cX1_isHungWell 46 = .ok (.iload_n 3, 1) := dk_29 (dk_at dksX1_isHungWell_1 22 rfl rfl)
theorem dX1_isHungWell_47 : decode cX1_isHungWell 47 = .ok (.invokestatic 329, 3) := dk_184 1 73 (dk_at dksX1_isHungWell_2 0 rfl rfl)
theorem dX1_isHungWell_50 : decode cX1_isHungWell 50 = .ok (.ifCond .eq 36, 3) := dk_153 0 36 (dk_at dksX1_isHungWell_2 3 rfl rfl)
theorem dX1_isHungWell_53 : decode cX1_isHungWell 53 = .ok (.aload_n 0, 1) := dk_42 (dk_at dksX1_isHungWell_2 6 rfl rfl)
theorem dX1_isHungWell_54 : decode cX1_isHungWell 54 = .ok (.iload_n 1, 1) := dk_27 (dk_at dksX1_isHungWell_2 7 rfl rfl)
theorem dX1_isHungWell_55 : decode cX1_isHungWell 55 = .ok (.iload_n 3, 1) := dk_29 (dk_at dksX1_isHungWell_2 8 rfl rfl)
theorem dX1_isHungWell_56 : decode cX1_isHungWell 56 = .ok (.iload_n 2, 1) := dk_28 (dk_at dksX1_isHungWell_2 9 rfl rfl)
theorem dX1_isHungWell_57 : decode cX1_isHungWell 57 = .ok (.invokevirtual 351, 3) := dk_182 1 95 (dk_at dksX1_isHungWell_2 10 rfl rfl)
theorem dX1_isHungWell_60 : decode cX1_isHungWell 60 = .ok (.ifCond .eq 6, 3) := dk_153 0 6 (dk_at dksX1_isHungWell_2 13 rfl rfl)
theorem dX1_isHungWell_63 : decode cX1_isHungWell 63 = .ok (.goto 23, 3) := dk_167 0 23 (dk_at dksX1_isHungWell_2 16 rfl rfl)
theorem dX1_isHungWell_66 : decode cX1_isHungWell 66 = .ok (.aload_n 0, 1) := dk_42 (dk_at dksX1_isHungWell_2 19 rfl rfl)
theorem dX1_isHungWell_67 : decode cX1_isHungWell 67 = .ok (.getfield 124, 3) := dk_180 0 124 (dk_at dksX1_isHungWell_2 20 rfl rfl)
theorem dX1_isHungWell_70 : decode cX1_isHungWell 70 = .ok (.iload_n 1, 1) := dk_27 (dk_at dksX1_isHungWell_2 23 rfl rfl)
theorem dX1_isHungWell_71 : decode cX1_isHungWell 71 = .ok (.iload_n 3, 1) := dk_29 (dk_at dksX1_isHungWell_3 0 rfl rfl)
theorem dX1_isHungWell_72 : decode cX1_isHungWell 72 = .ok (.iastore, 1) := dk_79 (dk_at dksX1_isHungWell_3 1 rfl rfl)
theorem dX1_isHungWell_73 : decode cX1_isHungWell 73 = .ok (.aload_n 0, 1) := dk_42 (dk_at dksX1_isHungWell_3 2 rfl rfl)
theorem dX1_isHungWell_74 : decode cX1_isHungWell 74 = .ok (.iload_n 1, 1) := dk_27 (dk_at dksX1_isHungWell_3 3 rfl rfl)
theorem dX1_isHungWell_75 : decode cX1_isHungWell 75 = .ok (.iconst 1, 1) := dk_4 (dk_at dksX1_isHungWell_3 4 rfl rfl)
theorem dX1_isHungWell_76 : decode cX1_isHungWell 76 = .ok (.iadd, 1) := dk_96 (dk_at dksX1_isHungWell_3 5 rfl rfl)
theorem dX1_isHungWell_77 : decode cX1_isHungWell 77 = .ok (.iload_n 2, 1) := dk_28 (dk_at dksX1_isHungWell_3 6 rfl rfl)
theorem dX1_isHungWell_78 : decode cX1_isHungWell 78 = .ok (.invokevirtual 397, 3) := dk_182 1 141 (dk_at dksX1_isHungWell_3 7 rfl rfl)
theorem dX1_isHungWell_81 : decode cX1_isHungWell 81 = .ok (.ifCond .eq 5, 3) := dk_153 0 5 (dk_at dksX1_isHungWell_3 10 rfl rfl)
theorem dX1_isHungWell_84 : decode cX1_isHungWell 84 = .ok (.iconst 1, 1) := dk_4 (dk_at dksX1_isHungWell_3 13 rfl rfl)
theorem dX1_isHungWell_85 : decode cX1_isHungWell 85 = .ok (.ireturn, 1) := dk_172 (dk_at dksX1_isHungWell_3 14 rfl rfl)
theorem dX1_isHungWell_86 : decode cX1_isHungWell 86 = .ok (.iinc 3 1, 3) := dk_132 3 1 (dk_at dksX1_isHungWell_3 15 rfl rfl)
theorem dX1_isHungWell_89 : decode cX1_isHungWell 89 = .ok (.goto (-54), 3) := dk_167 255 202 (dk_at dksX1_isHungWell_3 18 rfl rfl)
theorem dX1_isHungWell_92 : decode cX1_isHungWell 92 = .ok (.iconst 0, 1) := dk_3 (dk_at dksX1_isHungWell_3 21 rfl rfl)
theorem dX1_isHungWell_93 : decode cX1_isHungWell 93 = .ok (.ireturn, 1) := dk_172 (dk_at dksX1_isHungWell_3 22 rfl rfl)
theorem dn_X1_isHungWell : yX1_isHungWell.cls ≠ "java/lang/invoke/MethodHandle" ∧ yX1_isHungWell.cls ≠ "java/lang/invoke/VarHandle" ∧ (parseMethodDescriptor yX1_isHungWell.desc).map (fun d => d.parameters.length) = some 2 := by decide +kernel
noncomputable def B_X1_isHungWell (Rc : Nat → Int32 → Int32 → Mo Bool) (t : Nat) (p1 : Int32) (p2 : Int32) : Mo Bool := Mo.bind (gR [0] t 9) (fun v1 => Mo.bind (gR [2] v1 0) (fun v2 => Mo.bind (gI [3] v2 6) (fun v3 => if p1 = v3 then Mo.pure true else Mo.bind (M_X1_has p2 p1) (fun v4 => cond v4 (Mo.loop (S := Int32) (fun s5 => if 4 ≤ s5 then Mo.pure (Sum.inr false) else Mo.bind (gR [0] t 15) (fun v8 => Mo.bind (aldI 0 v8 p1) (fun v9 => Mo.bind (M_X1_has v9 s5) (fun v10 => cond v10 (Mo.bind (M_X1_isBitten t p1 s5 p2) (fun v12 => cond v12 (Mo.lv (s5 + 1) (fun v16 => Mo.pure (Sum.inl v16))) (Mo.bind (gR [0] t 16) (fun v13 => Mo.bind (astI 0 v13 p1 s5) (fun _ => Mo.bind (Rc t (p1 + 1) p2) (fun v14 => cond v14 (Mo.pure (Sum.inr true)) (Mo.lv (s5 + 1) (fun v15 => Mo.pure (Sum.inl v15))))))))) (Mo.lv (s5 + 1) (fun v11 => Mo.pure (Sum.inl v11))))))) 0) (Mo.bind (Rc t (p1 + 1) p2) (fun v17 => Mo.pure v17))))))
noncomputable def N_X1_isHungWell : Nat → Nat → Int32 → Int32 → Mo Bool
  | 0 => fun _ _ _ => Mo.fail
  | n + 1 => B_X1_isHungWell (fun t p1 p2 => Mo.bind (chk [0] t) (fun _ => N_X1_isHungWell n t p1 p2))
noncomputable def M_X1_isHungWell (n : Nat) (t : Nat) (p1 : Int32) (p2 : Int32) : Mo Bool := Mo.bind (chk [0] t) (fun _ => N_X1_isHungWell n t p1 p2)
set_option maxHeartbeats 4000000 in
theorem ct_X1_isHungWell (G : gG) (n : Nat) : ∀ (t : Nat) (p1 : Int32) (p2 : Int32), gCt G yX1_isHungWell cX1_isHungWell 4 (some .boolean) (2 + n) (47 + n * 23) [.ref t, .int p1, .int p2] (M_X1_isHungWell n t p1 p2) (fun x : Bool => some (.int (b2i x))) := by
  induction n with
  | zero =>
    intro t p1 p2 l hfl h r h2 hf
    obtain ⟨-, hf⟩ := chk_some hf
    cases hf
  | succ n ih =>
    intro t p1 p2
    refine gCt.of (by decide) (Nat.le_of_ble_eq_true rfl) (fun K r hG X hd ho => ?_)
    subst hG
    have X : gX K cX1_isHungWell 4 "BitingDoors" "isHungWell" (some .boolean) (2 + (n + 1)) (47 + (n + 1) * 23) := X
    have hle : gLe (kh1 K) (kh1 K) := gLe.rf
    show V K 4 (kh0 K) 0 [(0, .ref t), (1, .int p1), (2, .int p2)] []
    generalize kh0 K = h at hd ⊢
    obtain ⟨-, hd⟩ := chk_some hd
    have hd : (B_X1_isHungWell (M_X1_isHungWell n) t p1 p2).1 h = some (r, kh1 K) := hd
    unfold B_X1_isHungWell at hd
    refine v_iload_n X dX1_isHungWell_0 1 1 rfl rfl ?_
    refine v_aload_n X dX1_isHungWell_1 0 0 rfl rfl ?_
    refine v_getR X hd fl_X1_90 dX1_isHungWell_2 (fun v1 hd => ?_)
    refine v_getR X hd fl_X1_243 dX1_isHungWell_5 (fun v2 hd => ?_)
    refine v_getI X hd fl_X1_247 dX1_isHungWell_8 (fun v3 hd => ?_)
    refine v_icmp_ne (tgt := 16) X dX1_isHungWell_11 (by decide) (fun q => ?_) (fun q => ?_)
    · have hd := ite_f q hd
      refine v_iload_n X dX1_isHungWell_16 2 2 rfl rfl ?_
      refine v_iload_n X dX1_isHungWell_17 1 1 rfl rfl ?_
      refine v_callS X hd hle (ct_X1_has _ p2 p1) (lw_S q1163 q899 q109 q900) dn_X1_has rfl ⟨by omega, by omega⟩ rfl (Nat.le_of_ble_eq_true rfl) dX1_isHungWell_18 (fun v4 h hd => ?_)
      show V K 4 h 21 [(0, .ref t), (1, .int p1), (2, .int p2)] [.int (b2i v4)]
      refine v_ifZ_ne (tgt := 33) X dX1_isHungWell_21 (by decide) (fun q => ?_) (fun q => ?_)
      · have hd := cnd_t q hd
        refine v_iconst (v := 0) X dX1_isHungWell_33 (by decide) ?_
        refine v_istore_n (lv2 := [(3, .int 0), (0, .ref t), (1, .int p1), (2, .int p2)]) X dX1_isHungWell_34 3 rfl (by decide) rfl ?_
        refine v_loc [1, 2, 3, 0] rfl ?_
        refine loop_ind hd (fun (s5 : Int32) h => V K 4 h 35 [(0, .ref t), (1, .int p1), (2, .int p2), (3, .int s5)] []) (fun s5 h x h2 hd hle0 ih6 ho7 => ?_)
        have hle := hle0.tr hle
        refine v_iload_n X dX1_isHungWell_35 3 3 rfl rfl ?_
        refine v_iconst (v := 4) X dX1_isHungWell_36 (by decide) ?_
        refine v_icmp_ge (tgt := 92) X dX1_isHungWell_37 (by decide) (fun q => ?_) (fun q => ?_)
        · have hd := ite_t q hd
          refine v_iconst (v := 0) X dX1_isHungWell_92 (by decide) ?_
          have hd := lp_out hd ho7
          exact v_zret X hd rfl ho dX1_isHungWell_93
        · have hd := ite_f q hd
          refine v_aload_n X dX1_isHungWell_40 0 0 rfl rfl ?_
          refine v_getR X hd fl_X1_120 dX1_isHungWell_41 (fun v8 hd => ?_)
          refine v_iload_n X dX1_isHungWell_44 1 1 rfl rfl ?_
          refine v_iald X hd dX1_isHungWell_45 (fun v9 hd => ?_)
          refine v_iload_n X dX1_isHungWell_46 3 3 rfl rfl ?_
          refine v_callS X hd hle (ct_X1_has _ v9 s5) (lw_S q1163 q899 q109 q900) dn_X1_has rfl ⟨by omega, by omega⟩ rfl (Nat.le_of_ble_eq_true rfl) dX1_isHungWell_47 (fun v10 h hd => ?_)
          show V K 4 h 50 [(0, .ref t), (1, .int p1), (2, .int p2), (3, .int s5)] [.int (b2i v10)]
          refine v_ifZ_eq (tgt := 86) X dX1_isHungWell_50 (by decide) (fun q => ?_) (fun q => ?_)
          · have hd := cnd_f q hd
            refine v_iincL (lv2 := fun v11 => [(3, .int v11), (0, .ref t), (1, .int p1), (2, .int p2)]) X hd dX1_isHungWell_86 3 rfl (by decide : Int32.ofInt 1 = 1) (by decide) (fun v11 => rfl) (fun v11 hd => ?_)
            refine v_goto (tgt := 35) X dX1_isHungWell_89 (by decide) ?_
            exact v_loc [1, 2, 3, 0] rfl (lp_in (P := fun (s5 : Int32) h => V K 4 h 35 [(0, .ref t), (1, .int p1), (2, .int p2), (3, .int s5)] []) hd ih6)
          · have hd := cnd_t q hd
            refine v_aload_n X dX1_isHungWell_53 0 0 rfl rfl ?_
            refine v_iload_n X dX1_isHungWell_54 1 1 rfl rfl ?_
            refine v_iload_n X dX1_isHungWell_55 3 3 rfl rfl ?_
            refine v_iload_n X dX1_isHungWell_56 2 2 rfl rfl ?_
            refine v_callV X hd hle (ct_X1_isBitten _ t p1 s5 p2) gCl_X1 (lw_V q1190 q1192 qs18 q109 q1193) ⟨rfl, dn_X1_isBitten⟩ rfl ⟨by omega, by omega⟩ rfl (Nat.le_of_ble_eq_true rfl) dX1_isHungWell_57 (fun v12 h hd => ?_)
            show V K 4 h 60 [(0, .ref t), (1, .int p1), (2, .int p2), (3, .int s5)] [.int (b2i v12)]
            refine v_ifZ_eq (tgt := 66) X dX1_isHungWell_60 (by decide) (fun q => ?_) (fun q => ?_)
            · have hd := cnd_f q hd
              refine v_aload_n X dX1_isHungWell_66 0 0 rfl rfl ?_
              refine v_getR X hd fl_X1_124 dX1_isHungWell_67 (fun v13 hd => ?_)
              refine v_iload_n X dX1_isHungWell_70 1 1 rfl rfl ?_
              refine v_iload_n X dX1_isHungWell_71 3 3 rfl rfl ?_
              refine v_iast X hd dX1_isHungWell_72 (fun h hd => ?_)
              refine v_aload_n X dX1_isHungWell_73 0 0 rfl rfl ?_
              refine v_iload_n X dX1_isHungWell_74 1 1 rfl rfl ?_
              refine v_iconst (v := 1) X dX1_isHungWell_75 (by decide) ?_
              refine v_iadd X dX1_isHungWell_76 ?_
              refine v_iload_n X dX1_isHungWell_77 2 2 rfl rfl ?_
              refine v_callV X hd hle (ih t (p1 + 1) p2) gCl_X1 (lw_V q1253 q1255 qs23 q109 q1256) ⟨rfl, dn_X1_isHungWell⟩ rfl ⟨by omega, by omega⟩ rfl (Nat.le_of_ble_eq_true rfl) dX1_isHungWell_78 (fun v14 h hd => ?_)
              show V K 4 h 81 [(0, .ref t), (1, .int p1), (2, .int p2), (3, .int s5)] [.int (b2i v14)]
              refine v_ifZ_eq (tgt := 86) X dX1_isHungWell_81 (by decide) (fun q => ?_) (fun q => ?_)
              · have hd := cnd_f q hd
                refine v_iincL (lv2 := fun v15 => [(3, .int v15), (0, .ref t), (1, .int p1), (2, .int p2)]) X hd dX1_isHungWell_86 3 rfl (by decide : Int32.ofInt 1 = 1) (by decide) (fun v15 => rfl) (fun v15 hd => ?_)
                refine v_goto (tgt := 35) X dX1_isHungWell_89 (by decide) ?_
                exact v_loc [1, 2, 3, 0] rfl (lp_in (P := fun (s5 : Int32) h => V K 4 h 35 [(0, .ref t), (1, .int p1), (2, .int p2), (3, .int s5)] []) hd ih6)
              · have hd := cnd_t q hd
                refine v_iconst (v := 1) X dX1_isHungWell_84 (by decide) ?_
                have hd := lp_out hd ho7
                exact v_zret X hd rfl ho dX1_isHungWell_85
            · have hd := cnd_t q hd
              refine v_goto (tgt := 86) X dX1_isHungWell_63 (by decide) ?_
              refine v_iincL (lv2 := fun v16 => [(3, .int v16), (0, .ref t), (1, .int p1), (2, .int p2)]) X hd dX1_isHungWell_86 3 rfl (by decide : Int32.ofInt 1 = 1) (by decide) (fun v16 => rfl) (fun v16 hd => ?_)
              refine v_goto (tgt := 35) X dX1_isHungWell_89 (by decide) ?_
              exact v_loc [1, 2, 3, 0] rfl (lp_in (P := fun (s5 : Int32) h => V K 4 h 35 [(0, .ref t), (1, .int p1), (2, .int p2), (3, .int s5)] []) hd ih6)
      · have hd := cnd_f q hd
        refine v_aload_n X dX1_isHungWell_24 0 0 rfl rfl ?_
        refine v_iload_n X dX1_isHungWell_25 1 1 rfl rfl ?_
        refine v_iconst (v := 1) X dX1_isHungWell_26 (by decide) ?_
        refine v_iadd X dX1_isHungWell_27 ?_
        refine v_iload_n X dX1_isHungWell_28 2 2 rfl rfl ?_
        refine v_callV X hd hle (ih t (p1 + 1) p2) gCl_X1 (lw_V q1253 q1255 qs23 q109 q1256) ⟨rfl, dn_X1_isHungWell⟩ rfl ⟨by omega, by omega⟩ rfl (Nat.le_of_ble_eq_true rfl) dX1_isHungWell_29 (fun v17 h hd => ?_)
        show V K 4 h 32 [(0, .ref t), (1, .int p1), (2, .int p2)] [.int (b2i v17)]
        exact v_zret X hd rfl ho dX1_isHungWell_32
    · have hd := ite_t q hd
      refine v_iconst (v := 1) X dX1_isHungWell_14 (by decide) ?_
      exact v_zret X hd rfl ho dX1_isHungWell_15
def dkwX3_be_1 : List UInt8 := [180, 0, 22, 3, 42, 180, 0, 22, 3, 16, 10, 184, 0, 43, 42, 43, 180, 0, 25, 181, 0, 25, 177]
abbrev dktX3_be_1 : List UInt8 := dkwX3_be_1 ++ []
def dkwX3_be_0 : List UInt8 := [42, 43, 180, 0, 12, 181, 0, 12, 43, 180, 0, 18, 3, 42, 180, 0, 18, 3, 16, 10, 184, 0, 43, 43]
abbrev dktX3_be_0 : List UInt8 := dkwX3_be_0 ++ dktX3_be_1
theorem dksX3_be_0 : cX3_be.data.toList.drop 0 = dktX3_be_0 := by decide +kernel
theorem dksX3_be_1 : cX3_be.data.toList.drop 24 = dktX3_be_1 := dk_seg dksX3_be_0 24 rfl rfl
theorem dX3_be_0 : decode cX3_be 0 = .ok (.aload_n 0, 1) := dk_42 (dk_at dksX3_be_0 0 rfl rfl)
theorem dX3_be_1 : decode cX3_be 1 = .ok (.aload_n 1, 1) := dk_43 (dk_at dksX3_be_0 1 rfl rfl)
theorem dX3_be_2 : decode cX3_be 2 = .ok (.getfield 12, 3) := dk_180 0 12 (dk_at dksX3_be_0 2 rfl rfl)
theorem dX3_be_5 : decode cX3_be 5 = .ok (.putfield 12, 3) := dk_181 0 12 (dk_at dksX3_be_0 5 rfl rfl)
theorem dX3_be_8 : decode cX3_be 8 = .ok (.aload_n 1, 1) := dk_43 (dk_at dksX3_be_0 8 rfl rfl)
theorem dX3_be_9 : decode cX3_be 9 = .ok (.getfield 18, 3) := dk_180 0 18 (dk_at dksX3_be_0 9 rfl rfl)
theorem dX3_be_12 : decode cX3_be 12 = .ok (.iconst 0, 1) := dk_3 (dk_at dksX3_be_0 12 rfl rfl)
theorem dX3_be_13 : decode cX3_be 13 = .ok (.aload_n 0, 1) := dk_42 (dk_at dksX3_be_0 13 rfl rfl)
theorem dX3_be_14 : decode cX3_be 14 = .ok (.getfield 18, 3) := dk_180 0 18 (dk_at dksX3_be_0 14 rfl rfl)
theorem dX3_be_17 : decode cX3_be 17 = .ok (.iconst 0, 1) := dk_3 (dk_at dksX3_be_0 17 rfl rfl)
theorem dX3_be_18 : decode cX3_be 18 = .ok (.bipush 10, 2) := dk_16 10 (dk_at dksX3_be_0 18 rfl rfl)
theorem dX3_be_20 : decode cX3_be 20 = .ok (.invokestatic 43, 3) := dk_184 0 43 (dk_at dksX3_be_0 20 rfl rfl)
theorem dX3_be_23 : decode cX3_be 23 = .ok (.aload_n 1, 1) := dk_43 (dk_at dksX3_be_0 23 rfl rfl)
theorem dX3_be_24 : decode cX3_be 24 = .ok (.getfield 22, 3) := dk_180 0 22 (dk_at dksX3_be_1 0 rfl rfl)
theorem dX3_be_27 : decode cX3_be 27 = .ok (.iconst 0, 1) := dk_3 (dk_at dksX3_be_1 3 rfl rfl)
theorem dX3_be_28 : decode cX3_be 28 = .ok (.aload_n 0, 1) := dk_42 (dk_at dksX3_be_1 4 rfl rfl)
theorem dX3_be_29 : decode cX3_be 29 = .ok (.getfield 22, 3) := dk_180 0 22 (dk_at dksX3_be_1 5 rfl rfl)
theorem dX3_be_32 : decode cX3_be 32 = .ok (.iconst 0, 1) := dk_3 (dk_at dksX3_be_1 8 rfl rfl)
theorem dX3_be_33 : decode cX3_be 33 = .ok (.bipush 10, 2) := dk_16 10 (dk_at dksX3_be_1 9 rfl rfl)
theorem dX3_be_35 : decode cX3_be 35 = .ok (.invokestatic 43, 3) := dk_184 0 43 (dk_at dksX3_be_1 11 rfl rfl)
theorem dX3_be_38 : decode cX3_be 38 = .ok (.aload_n 0, 1) := dk_42 (dk_at dksX3_be_1 14 rfl rfl)
theorem dX3_be_39 : decode cX3_be 39 = .ok (.aload_n 1, 1) := dk_43 (dk_at dksX3_be_1 15 rfl rfl)
theorem dX3_be_40 : decode cX3_be 40 = .ok (.getfield 25, 3) := dk_180 0 25 (dk_at dksX3_be_1 16 rfl rfl)
theorem dX3_be_43 : decode cX3_be 43 = .ok (.putfield 25, 3) := dk_181 0 25 (dk_at dksX3_be_1 19 rfl rfl)
theorem dX3_be_46 : decode cX3_be 46 = .ok (.return_, 1) := dk_177 (dk_at dksX3_be_1 22 rfl rfl)
theorem fl_X3_12 : gFl "BitingDoors$Walker" 12 [2] 0 := by
  intro args s hts hN ci hc
  simp only [List.mem_cons, List.not_mem_nil, or_false] at hc
  subst hc
  exact ⟨RX3, TX3, 6, "BitingDoors$Walker", gCl_X3, in_X3, by decide, Or.inl (hts _ q318), fun _ h => h⟩
theorem fl_X3_18 : gFl "BitingDoors$Walker" 18 [2] 1 := by
  intro args s hts hN ci hc
  simp only [List.mem_cons, List.not_mem_nil, or_false] at hc
  subst hc
  exact ⟨RX3, TX3, 6, "BitingDoors$Walker", gCl_X3, in_X3, by decide, Or.inl (hts _ q326), fun _ h => h⟩
theorem fl_X3_22 : gFl "BitingDoors$Walker" 22 [2] 2 := by
  intro args s hts hN ci hc
  simp only [List.mem_cons, List.not_mem_nil, or_false] at hc
  subst hc
  exact ⟨RX3, TX3, 6, "BitingDoors$Walker", gCl_X3, in_X3, by decide, Or.inl (hts _ q332), fun _ h => h⟩
theorem fl_X3_25 : gFl "BitingDoors$Walker" 25 [2] 3 := by
  intro args s hts hN ci hc
  simp only [List.mem_cons, List.not_mem_nil, or_false] at hc
  subst hc
  exact ⟨RX3, TX3, 6, "BitingDoors$Walker", gCl_X3, in_X3, by decide, Or.inl (hts _ q337), fun _ h => h⟩
theorem fp_X3_12 {nm : String} : gFp "BitingDoors$Walker" nm 12 [2] 0 (.object "BitingDoors$House") := by
  intro args s hts hN ci hc
  simp only [List.mem_cons, List.not_mem_nil, or_false] at hc
  subst hc
  exact ⟨RX3, TX3, 6, "BitingDoors$Walker", gCl_X3, in_X3, by decide, Or.inl ⟨rfl, Or.inl (hts _ q318)⟩, fun _ h => h, rfl, fun D tys hK => gap_X3 hts hK⟩
theorem fp_X3_25 {nm : String} : gFp "BitingDoors$Walker" nm 25 [2] 3 .int := by
  intro args s hts hN ci hc
  simp only [List.mem_cons, List.not_mem_nil, or_false] at hc
  subst hc
  exact ⟨RX3, TX3, 6, "BitingDoors$Walker", gCl_X3, in_X3, by decide, Or.inl ⟨rfl, Or.inl (hts _ q337)⟩, fun _ h => h, rfl, fun D tys hK => gap_X3 hts hK⟩
theorem dn_X3_be : yX3_be.cls ≠ "java/lang/invoke/MethodHandle" ∧ yX3_be.cls ≠ "java/lang/invoke/VarHandle" ∧ (parseMethodDescriptor yX3_be.desc).map (fun d => d.parameters.length) = some 1 := by decide +kernel
noncomputable def M_X3_be (t : Nat) (p1 : Nat) : Mo Unit := Mo.bind (chk [2] t) (fun _ => Mo.bind (gR [2] p1 0) (fun v1 => Mo.bind (pF [2] t 0 (.ref v1)) (fun _ => Mo.bind (gR [2] p1 1) (fun v2 => Mo.bind (gR [2] t 1) (fun v3 => Mo.bind (cpyI v2 0 v3 0 10) (fun _ => Mo.bind (gR [2] p1 2) (fun v4 => Mo.bind (gR [2] t 2) (fun v5 => Mo.bind (cpyI v4 0 v5 0 10) (fun _ => Mo.bind (gI [2] p1 3) (fun v6 => Mo.bind (pF [2] t 3 (.int v6)) (fun _ => Mo.pure ())))))))))))
set_option maxHeartbeats 4000000 in
theorem ct_X3_be (G : gG) (t : Nat) (p1 : Nat) : gCt G yX3_be cX3_be 2 none 1 60 [.ref t, .ref p1] (M_X3_be t p1) (fun _ : Unit => none) := by
  refine gCt.of (by decide) (Nat.le_of_ble_eq_true rfl) (fun K r hG X hd ho => ?_)
  subst hG
  have X : gX K cX3_be 2 "BitingDoors$Walker" "be" none 1 60 := X
  have hle : gLe (kh1 K) (kh1 K) := gLe.rf
  show V K 2 (kh0 K) 0 [(0, .ref t), (1, .ref p1)] []
  generalize kh0 K = h at hd ⊢
  unfold M_X3_be at hd
  obtain ⟨-, hd⟩ := chk_some hd
  refine v_aload_n X dX3_be_0 0 0 rfl rfl ?_
  refine v_aload_n X dX3_be_1 1 1 rfl rfl ?_
  refine v_getR X hd fl_X3_12 dX3_be_2 (fun v1 hd => ?_)
  refine v_put (v := .ref v1) X hd fp_X3_12 rfl rfl dX3_be_5 (fun h hd => ?_)
  refine v_aload_n X dX3_be_8 1 1 rfl rfl ?_
  refine v_getR X hd fl_X3_18 dX3_be_9 (fun v2 hd => ?_)
  refine v_iconst (v := 0) X dX3_be_12 (by decide) ?_
  refine v_aload_n X dX3_be_13 0 0 rfl rfl ?_
  refine v_getR X hd fl_X3_18 dX3_be_14 (fun v3 hd => ?_)
  refine v_iconst (v := 0) X dX3_be_17 (by decide) ?_
  refine v_bipush (v := 10) X dX3_be_18 (by decide) ?_
  refine v_cpyI X hd q1339 q1189 q1188 q131 (Nat.le_of_ble_eq_true rfl) (by decide) (by decide) dX3_be_20 (fun h hd => ?_)
  refine v_aload_n X dX3_be_23 1 1 rfl rfl ?_
  refine v_getR X hd fl_X3_22 dX3_be_24 (fun v4 hd => ?_)
  refine v_iconst (v := 0) X dX3_be_27 (by decide) ?_
  refine v_aload_n X dX3_be_28 0 0 rfl rfl ?_
  refine v_getR X hd fl_X3_22 dX3_be_29 (fun v5 hd => ?_)
  refine v_iconst (v := 0) X dX3_be_32 (by decide) ?_
  refine v_bipush (v := 10) X dX3_be_33 (by decide) ?_
  refine v_cpyI X hd q1339 q1189 q1188 q131 (Nat.le_of_ble_eq_true rfl) (by decide) (by decide) dX3_be_35 (fun h hd => ?_)
  refine v_aload_n X dX3_be_38 0 0 rfl rfl ?_
  refine v_aload_n X dX3_be_39 1 1 rfl rfl ?_
  refine v_getI X hd fl_X3_25 dX3_be_40 (fun v6 hd => ?_)
  refine v_put (v := .int v6) X hd fp_X3_25 rfl rfl dX3_be_43 (fun h hd => ?_)
  exact v_vret X hd ho dX3_be_46
def dkwX4_init_2 : List UInt8 := [180, 0, 9, 190, 162, 0, 16, 42, 180, 0, 9, 27, 4, 79, 132, 1, 1, 167, 255, 237, 177]
abbrev dktX4_init_2 : List UInt8 := dkwX4_init_2 ++ []
def dkwX4_init_1 : List UInt8 := [189, 0, 18, 181, 0, 20, 42, 17, 1, 144, 188, 10, 181, 0, 24, 42, 2, 181, 0, 27, 3, 60, 27, 42]
abbrev dktX4_init_1 : List UInt8 := dkwX4_init_1 ++ dktX4_init_2
def dkwX4_init_0 : List UInt8 := [42, 183, 0, 3, 42, 16, 100, 188, 10, 181, 0, 9, 42, 16, 18, 188, 10, 181, 0, 15, 42, 16, 10]
abbrev dktX4_init_0 : List UInt8 := dkwX4_init_0 ++ dktX4_init_1
theorem dksX4_init_0 : cX4_init.data.toList.drop 0 = dktX4_init_0 := by decide +kernel
theorem dksX4_init_1 : cX4_init.data.toList.drop 23 = dktX4_init_1 := dk_seg dksX4_init_0 23 rfl rfl
theorem dksX4_init_2 : cX4_init.data.toList.drop 47 = dktX4_init_2 := dk_seg dksX4_init_1 24 rfl rfl
theorem dX4_init_0 : decode cX4_init 0 = .ok (.aload_n 0, 1) := dk_42 (dk_at dksX4_init_0 0 rfl rfl)
theorem dX4_init_1 : decode cX4_init 1 = .ok (.invokespecial 3, 3) := dk_183 0 3 (dk_at dksX4_init_0 1 rfl rfl)
theorem dX4_init_4 : decode cX4_init 4 = .ok (.aload_n 0, 1) := dk_42 (dk_at dksX4_init_0 4 rfl rfl)
theorem dX4_init_5 : decode cX4_init 5 = .ok (.bipush 100, 2) := dk_16 100 (dk_at dksX4_init_0 5 rfl rfl)
theorem dX4_init_7 : decode cX4_init 7 = .ok (.newarray .int, 2) := dk_188_10 (dk_at dksX4_init_0 7 rfl rfl)
theorem dX4_init_9 : decode cX4_init 9 = .ok (.putfield 9, 3) := dk_181 0 9 (dk_at dksX4_init_0 9 rfl rfl)
theorem dX4_init_12 : decode cX4_init 12 = .ok (.aload_n 0, 1) := dk_42 (dk_at dksX4_init_0 12 rfl rfl)
theorem dX4_init_13 : decode cX4_init 13 = .ok (.bipush 18, 2) := dk_16 18 (dk_at dksX4_init_0 13 rfl rfl)
theorem dX4_init_15 : decode cX4_init 15 = .ok (.newarray .int, 2) := dk_188_10 (dk_at dksX4_init_0 15 rfl rfl)
theorem dX4_init_17 : decode cX4_init 17 = .ok (.putfield 15, 3) := dk_181 0 15 (dk_at dksX4_init_0 17 rfl rfl)
theorem dX4_init_20 : decode cX4_init 20 = .ok (.aload_n 0, 1) := dk_42 (dk_at dksX4_init_0 20 rfl rfl)
theorem dX4_init_21 : decode cX4_init 21 = .ok (.bipush 10, 2) := dk_16 10 (dk_at dksX4_init_0 21 rfl rfl)
theorem dX4_init_23 : decode cX4_init 23 = .ok (.anewarray 18, 3) := dk_189 0 18 (dk_at dksX4_init_1 0 rfl rfl)
theorem dX4_init_26 : decode cX4_init 26 = .ok (.putfield 20, 3) := dk_181 0 20 (dk_at dksX4_init_1 3 rfl rfl)
theorem dX4_init_29 : decode cX4_init 29 = .ok (.aload_n 0, 1) := dk_42 (dk_at dksX4_init_1 6 rfl rfl)
theorem dX4_init_30 : decode cX4_init 30 = .ok (.sipush 400, 3) := dk_17 1 144 (dk_at dksX4_init_1 7 rfl rfl)
theorem dX4_init_33 : decode cX4_init 33 = .ok (.newarray .int, 2) := dk_188_10 (dk_at dksX4_init_1 10 rfl rfl)
theorem dX4_init_35 : decode cX4_init 35 = .ok (.putfield 24, 3) := dk_181 0 24 (dk_at dksX4_init_1 12 rfl rfl)
theorem dX4_init_38 : decode cX4_init 38 = .ok (.aload_n 0, 1) := dk_42 (dk_at dksX4_init_1 15 rfl rfl)
theorem dX4_init_39 : decode cX4_init 39 = .ok (.iconst (-1), 1) := dk_2 (dk_at dksX4_init_1 16 rfl rfl)
theorem dX4_init_40 : decode cX4_init 40 = .ok (.putfield 27, 3) := dk_181 0 27 (dk_at dksX4_init_1 17 rfl rfl)
theorem dX4_init_43 : decode cX4_init 43 = .ok (.iconst 0, 1) := dk_3 (dk_at dksX4_init_1 20 rfl rfl)
theorem dX4_init_44 : decode cX4_init 44 = .ok (.istore_n 1, 1) := dk_60 (dk_at dksX4_init_1 21 rfl rfl)
theorem dX4_init_45 : decode cX4_init 45 = .ok (.iload_n 1, 1) := dk_27 (dk_at dksX4_init_1 22 rfl rfl)
theorem dX4_init_46 : decode cX4_init 46 = .ok (.aload_n 0, 1) := dk_42 (dk_at dksX4_init_1 23 rfl rfl)
theorem dX4_init_47 : decode cX4_init 47 = .ok (.getfield 9, 3) := dk_180 0 9 (dk_at dksX4_init_2 0 rfl rfl)
theorem dX4_init_50 : decode cX4_init 50 = .ok (.arraylength, 1) := dk_190 (dk_at dksX4_init_2 3 rfl rfl)
theorem dX4_init_51 : decode cX4_init 51 = .ok (.if_icmp .ge 16, 3) := dk_162 0 16 (dk_at dksX4_init_2 4 rfl rfl)
theorem dX4_init_54 : decode cX4_init 54 = .ok (.aload_n 0, 1) := dk_42 (dk_at dksX4_init_2 7 rfl rfl)
theorem dX4_init_55 : decode cX4_init 55 = .ok (.getfield 9, 3) := dk_180 0 9 (dk_at dksX4_init_2 8 rfl rfl)
theorem dX4_init_58 : decode cX4_init 58 = .ok (.iload_n 1, 1) := dk_27 (dk_at dksX4_init_2 11 rfl rfl)
theorem dX4_init_59 : decode cX4_init 59 = .ok (.iconst 1, 1) := dk_4 (dk_at dksX4_init_2 12 rfl rfl)
theorem dX4_init_60 : decode cX4_init 60 = .ok (.iastore, 1) := dk_79 (dk_at dksX4_init_2 13 rfl rfl)
theorem dX4_init_61 : decode cX4_init 61 = .ok (.iinc 1 1, 3) := dk_132 1 1 (dk_at dksX4_init_2 14 rfl rfl)
theorem dX4_init_64 : decode cX4_init 64 = .ok (.goto (-19), 3) := dk_167 255 237 (dk_at dksX4_init_2 17 rfl rfl)
theorem dX4_init_67 : decode cX4_init 67 = .ok (.return_, 1) := dk_177 (dk_at dksX4_init_2 20 rfl rfl)
theorem fl_X4_9 : gFl "BitingDoors$House" 9 [3] 0 := by
  intro args s hts hN ci hc
  simp only [List.mem_cons, List.not_mem_nil, or_false] at hc
  subst hc
  exact ⟨RX4, TX4, 9, "BitingDoors$House", gCl_X4, in_X4, by decide, Or.inl (hts _ q265), fun _ h => h⟩
theorem fp_X4_15_i : gFp "BitingDoors$House" "<init>" 15 [3] 1 (.array .int) := by
  intro args s hts hN ci hc
  simp only [List.mem_cons, List.not_mem_nil, or_false] at hc
  subst hc
  exact ⟨RX4, TX4, 9, "BitingDoors$House", gCl_X4, in_X4, by decide, Or.inr ⟨rfl, rfl, rfl, gFin hts in_X4 (k := 1) (by decide) rfl, hts _ q268⟩, fun _ h => h, rfl, fun D tys hK => gap_X4 hts hK⟩
theorem fp_X4_20_i : gFp "BitingDoors$House" "<init>" 20 [3] 2 (.array (.object "BitingDoors$Door")) := by
  intro args s hts hN ci hc
  simp only [List.mem_cons, List.not_mem_nil, or_false] at hc
  subst hc
  exact ⟨RX4, TX4, 9, "BitingDoors$House", gCl_X4, in_X4, by decide, Or.inr ⟨rfl, rfl, rfl, gFin hts in_X4 (k := 2) (by decide) rfl, hts _ q271⟩, fun _ h => h, rfl, fun D tys hK => gap_X4 hts hK⟩
theorem fp_X4_24_i : gFp "BitingDoors$House" "<init>" 24 [3] 3 (.array .int) := by
  intro args s hts hN ci hc
  simp only [List.mem_cons, List.not_mem_nil, or_false] at hc
  subst hc
  exact ⟨RX4, TX4, 9, "BitingDoors$House", gCl_X4, in_X4, by decide, Or.inr ⟨rfl, rfl, rfl, gFin hts in_X4 (k := 3) (by decide) rfl, hts _ q279⟩, fun _ h => h, rfl, fun D tys hK => gap_X4 hts hK⟩
theorem fp_X4_27_i : gFp "BitingDoors$House" "<init>" 27 [3] 8 .int := by
  intro args s hts hN ci hc
  simp only [List.mem_cons, List.not_mem_nil, or_false] at hc
  subst hc
  exact ⟨RX4, TX4, 9, "BitingDoors$House", gCl_X4, in_X4, by decide, Or.inl ⟨rfl, Or.inl (hts _ q294)⟩, fun _ h => h, rfl, fun D tys hK => gap_X4 hts hK⟩
theorem fp_X4_9_i : gFp "BitingDoors$House" "<init>" 9 [3] 0 (.array .int) := by
  intro args s hts hN ci hc
  simp only [List.mem_cons, List.not_mem_nil, or_false] at hc
  subst hc
  exact ⟨RX4, TX4, 9, "BitingDoors$House", gCl_X4, in_X4, by decide, Or.inr ⟨rfl, rfl, rfl, gFin hts in_X4 (k := 0) (by decide) rfl, hts _ q265⟩, fun _ h => h, rfl, fun D tys hK => gap_X4 hts hK⟩
theorem dn_X4_init : yX4_init.cls ≠ "java/lang/invoke/MethodHandle" ∧ yX4_init.cls ≠ "java/lang/invoke/VarHandle" ∧ (parseMethodDescriptor yX4_init.desc).map (fun d => d.parameters.length) = some 0 := by decide +kernel
noncomputable def M_X4_init (t : Nat) : Mo Unit := Mo.bind (nwI 0 100) (fun q1 => Mo.bind (pF [3] t 0 (.ref q1)) (fun _ => Mo.bind (nwI 0 18) (fun q2 => Mo.bind (pF [3] t 1 (.ref q2)) (fun _ => Mo.bind (nwR 5 10) (fun q3 => Mo.bind (pF [3] t 2 (.ref q3)) (fun _ => Mo.bind (nwI 0 400) (fun q4 => Mo.bind (pF [3] t 3 (.ref q4)) (fun _ => Mo.bind (pF [3] t 8 (.int (-1))) (fun _ => Mo.bind (Mo.loop (S := Int32) (E := Unit) (fun s5 => Mo.bind (gR [3] t 0) (fun v9 => Mo.bind (alen [0] v9) (fun v10 => if v10 ≤ s5 then Mo.pure (Sum.inr ()) else Mo.bind (gR [3] t 0) (fun v11 => Mo.bind (astI 0 v11 s5 1) (fun _ => Mo.lv (s5 + 1) (fun v12 => Mo.pure (Sum.inl v12))))))) 0) (fun e8 => Mo.pure ()))))))))))
set_option maxHeartbeats 4000000 in
theorem ct_X4_init (G : gG) (t : Nat) : gCt G yX4_init cX4_init 2 none 1 20 [.ref t] (M_X4_init t) (fun _ : Unit => none) := by
  refine gCt.of (by decide) (Nat.le_of_ble_eq_true rfl) (fun K r hG X hd ho => ?_)
  subst hG
  have X : gX K cX4_init 2 "BitingDoors$House" "<init>" none 1 20 := X
  have hle : gLe (kh1 K) (kh1 K) := gLe.rf
  show V K 2 (kh0 K) 0 [(0, .ref t)] []
  generalize kh0 K = h at hd ⊢
  unfold M_X4_init at hd
  refine v_aload_n X dX4_init_0 0 0 rfl rfl ?_
  refine v_objInit X q262 q152 q153 (Nat.le_of_ble_eq_true rfl) dX4_init_1 (by decide) (by decide) ?_
  refine v_aload_n X dX4_init_4 0 0 rfl rfl ?_
  refine v_bipush (v := 100) X dX4_init_5 (by decide) ?_
  refine v_newI X hd hle 0 rfl rfl rfl (fun _ z => by cases z) (by decide) q317 dX4_init_7 (fun q1 h hd => ?_)
  refine v_put (v := .ref q1) X hd fp_X4_9_i rfl rfl dX4_init_9 (fun h hd => ?_)
  refine v_aload_n X dX4_init_12 0 0 rfl rfl ?_
  refine v_bipush (v := 18) X dX4_init_13 (by decide) ?_
  refine v_newI X hd hle 0 rfl rfl rfl (fun _ z => by cases z) (by decide) q317 dX4_init_15 (fun q2 h hd => ?_)
  refine v_put (v := .ref q2) X hd fp_X4_15_i rfl rfl dX4_init_17 (fun h hd => ?_)
  refine v_aload_n X dX4_init_20 0 0 rfl rfl ?_
  refine v_bipush (v := 10) X dX4_init_21 (by decide) ?_
  refine v_newR X hd hle 5 rfl q263 (by decide) dX4_init_23 (fun q3 h hd => ?_)
  refine v_put (v := .ref q3) X hd fp_X4_20_i rfl rfl dX4_init_26 (fun h hd => ?_)
  refine v_aload_n X dX4_init_29 0 0 rfl rfl ?_
  refine v_sipush (v := 400) X dX4_init_30 (by decide) ?_
  refine v_newI X hd hle 0 rfl rfl rfl (fun _ z => by cases z) (by decide) q317 dX4_init_33 (fun q4 h hd => ?_)
  refine v_put (v := .ref q4) X hd fp_X4_24_i rfl rfl dX4_init_35 (fun h hd => ?_)
  refine v_aload_n X dX4_init_38 0 0 rfl rfl ?_
  refine v_iconst (v := (-1)) X dX4_init_39 (by decide) ?_
  refine v_put (v := .int (-1)) X hd fp_X4_27_i rfl rfl dX4_init_40 (fun h hd => ?_)
  refine v_iconst (v := 0) X dX4_init_43 (by decide) ?_
  refine v_istore_n (lv2 := [(1, .int 0), (0, .ref t)]) X dX4_init_44 1 rfl (by decide) rfl ?_
  obtain ⟨e8, h1, hd, hd2⟩ := Mo.bind_some hd
  have KX : V K 2 h1 67 [] [] := by
    clear hd
    have hd := hd2
    exact v_vret X hd ho dX4_init_67
  have hle := (Mo.le hd2).tr hle
  clear hd2
  refine v_loc [1, 0] rfl ?_
  refine loop_ind hd (fun (s5 : Int32) h => V K 2 h 45 [(0, .ref t), (1, .int s5)] []) (fun s5 h x h2 hd hle0 ih6 ho7 => ?_)
  have hle := hle0.tr hle
  refine v_iload_n X dX4_init_45 1 1 rfl rfl ?_
  refine v_aload_n X dX4_init_46 0 0 rfl rfl ?_
  refine v_getR X hd fl_X4_9 dX4_init_47 (fun v9 hd => ?_)
  refine v_alen X hd 0 rfl (by decide) dX4_init_50 (fun v10 hd => ?_)
  refine v_icmp_ge (tgt := 67) X dX4_init_51 (by decide) (fun q => ?_) (fun q => ?_)
  · have hd := ite_t q hd
    exact v_loc [] rfl (v_at (P := fun (e8 : Unit) h => V K 2 h 67 [] []) (lp_out hd ho7) KX)
  · have hd := ite_f q hd
    refine v_aload_n X dX4_init_54 0 0 rfl rfl ?_
    refine v_getR X hd fl_X4_9 dX4_init_55 (fun v11 hd => ?_)
    refine v_iload_n X dX4_init_58 1 1 rfl rfl ?_
    refine v_iconst (v := 1) X dX4_init_59 (by decide) ?_
    refine v_iast X hd dX4_init_60 (fun h hd => ?_)
    refine v_iincL (lv2 := fun v12 => [(1, .int v12), (0, .ref t)]) X hd dX4_init_61 1 rfl (by decide : Int32.ofInt 1 = 1) (by decide) (fun v12 => rfl) (fun v12 hd => ?_)
    refine v_goto (tgt := 45) X dX4_init_64 (by decide) ?_
    exact v_loc [1, 0] rfl (lp_in (P := fun (s5 : Int32) h => V K 2 h 45 [(0, .ref t), (1, .int s5)] []) hd ih6)
def dkwX3_init_1 : List UInt8 := [16, 10, 188, 10, 181, 0, 22, 42, 2, 181, 0, 25, 177]
abbrev dktX3_init_1 : List UInt8 := dkwX3_init_1 ++ []
def dkwX3_init_0 : List UInt8 := [42, 183, 0, 3, 42, 187, 0, 9, 89, 183, 0, 11, 181, 0, 12, 42, 16, 10, 188, 10, 181, 0, 18, 42]
abbrev dktX3_init_0 : List UInt8 := dkwX3_init_0 ++ dktX3_init_1
theorem dksX3_init_0 : cX3_init.data.toList.drop 0 = dktX3_init_0 := by decide +kernel
theorem dksX3_init_1 : cX3_init.data.toList.drop 24 = dktX3_init_1 := dk_seg dksX3_init_0 24 rfl rfl
theorem dX3_init_0 : decode cX3_init 0 = .ok (.aload_n 0, 1) := dk_42 (dk_at dksX3_init_0 0 rfl rfl)
theorem dX3_init_1 : decode cX3_init 1 = .ok (.invokespecial 3, 3) := dk_183 0 3 (dk_at dksX3_init_0 1 rfl rfl)
theorem dX3_init_4 : decode cX3_init 4 = .ok (.aload_n 0, 1) := dk_42 (dk_at dksX3_init_0 4 rfl rfl)
theorem dX3_init_5 : decode cX3_init 5 = .ok (.new 9, 3) := dk_187 0 9 (dk_at dksX3_init_0 5 rfl rfl)
theorem dX3_init_8 : decode cX3_init 8 = .ok (.dup, 1) := dk_89 (dk_at dksX3_init_0 8 rfl rfl)
theorem dX3_init_9 : decode cX3_init 9 = .ok (.invokespecial 11, 3) := dk_183 0 11 (dk_at dksX3_init_0 9 rfl rfl)
theorem dX3_init_12 : decode cX3_init 12 = .ok (.putfield 12, 3) := dk_181 0 12 (dk_at dksX3_init_0 12 rfl rfl)
theorem dX3_init_15 : decode cX3_init 15 = .ok (.aload_n 0, 1) := dk_42 (dk_at dksX3_init_0 15 rfl rfl)
theorem dX3_init_16 : decode cX3_init 16 = .ok (.bipush 10, 2) := dk_16 10 (dk_at dksX3_init_0 16 rfl rfl)
theorem dX3_init_18 : decode cX3_init 18 = .ok (.newarray .int, 2) := dk_188_10 (dk_at dksX3_init_0 18 rfl rfl)
theorem dX3_init_20 : decode cX3_init 20 = .ok (.putfield 18, 3) := dk_181 0 18 (dk_at dksX3_init_0 20 rfl rfl)
theorem dX3_init_23 : decode cX3_init 23 = .ok (.aload_n 0, 1) := dk_42 (dk_at dksX3_init_0 23 rfl rfl)
theorem dX3_init_24 : decode cX3_init 24 = .ok (.bipush 10, 2) := dk_16 10 (dk_at dksX3_init_1 0 rfl rfl)
theorem dX3_init_26 : decode cX3_init 26 = .ok (.newarray .int, 2) := dk_188_10 (dk_at dksX3_init_1 2 rfl rfl)
theorem dX3_init_28 : decode cX3_init 28 = .ok (.putfield 22, 3) := dk_181 0 22 (dk_at dksX3_init_1 4 rfl rfl)
theorem dX3_init_31 : decode cX3_init 31 = .ok (.aload_n 0, 1) := dk_42 (dk_at dksX3_init_1 7 rfl rfl)
theorem dX3_init_32 : decode cX3_init 32 = .ok (.iconst (-1), 1) := dk_2 (dk_at dksX3_init_1 8 rfl rfl)
theorem dX3_init_33 : decode cX3_init 33 = .ok (.putfield 25, 3) := dk_181 0 25 (dk_at dksX3_init_1 9 rfl rfl)
theorem dX3_init_36 : decode cX3_init 36 = .ok (.return_, 1) := dk_177 (dk_at dksX3_init_1 12 rfl rfl)
theorem fp_X3_12_i : gFp "BitingDoors$Walker" "<init>" 12 [2] 0 (.object "BitingDoors$House") := by
  intro args s hts hN ci hc
  simp only [List.mem_cons, List.not_mem_nil, or_false] at hc
  subst hc
  exact ⟨RX3, TX3, 6, "BitingDoors$Walker", gCl_X3, in_X3, by decide, Or.inl ⟨rfl, Or.inl (hts _ q318)⟩, fun _ h => h, rfl, fun D tys hK => gap_X3 hts hK⟩
theorem fp_X3_18_i : gFp "BitingDoors$Walker" "<init>" 18 [2] 1 (.array .int) := by
  intro args s hts hN ci hc
  simp only [List.mem_cons, List.not_mem_nil, or_false] at hc
  subst hc
  exact ⟨RX3, TX3, 6, "BitingDoors$Walker", gCl_X3, in_X3, by decide, Or.inr ⟨rfl, rfl, rfl, gFin hts in_X3 (k := 1) (by decide) rfl, hts _ q326⟩, fun _ h => h, rfl, fun D tys hK => gap_X3 hts hK⟩
theorem fp_X3_22_i : gFp "BitingDoors$Walker" "<init>" 22 [2] 2 (.array .int) := by
  intro args s hts hN ci hc
  simp only [List.mem_cons, List.not_mem_nil, or_false] at hc
  subst hc
  exact ⟨RX3, TX3, 6, "BitingDoors$Walker", gCl_X3, in_X3, by decide, Or.inr ⟨rfl, rfl, rfl, gFin hts in_X3 (k := 2) (by decide) rfl, hts _ q332⟩, fun _ h => h, rfl, fun D tys hK => gap_X3 hts hK⟩
theorem fp_X3_25_i : gFp "BitingDoors$Walker" "<init>" 25 [2] 3 .int := by
  intro args s hts hN ci hc
  simp only [List.mem_cons, List.not_mem_nil, or_false] at hc
  subst hc
  exact ⟨RX3, TX3, 6, "BitingDoors$Walker", gCl_X3, in_X3, by decide, Or.inl ⟨rfl, Or.inl (hts _ q337)⟩, fun _ h => h, rfl, fun D tys hK => gap_X3 hts hK⟩
theorem nw_X3_9 : gNw "BitingDoors$Walker" 9 3 9 [.null, .null, .null, .null, .int 0, .int 0, .int 0, .int 0, .int 0] := ⟨RX4, TX4, tyX4, gCl_X4, in_X4, tyX4_ok, q257, q258, q114, by decide, rfl⟩
theorem dn_X3_init : yX3_init.cls ≠ "java/lang/invoke/MethodHandle" ∧ yX3_init.cls ≠ "java/lang/invoke/VarHandle" ∧ (parseMethodDescriptor yX3_init.desc).map (fun d => d.parameters.length) = some 0 := by decide +kernel
noncomputable def M_X3_init (t : Nat) : Mo Unit := Mo.bind (nw 3 9 [.null, .null, .null, .null, .int 0, .int 0, .int 0, .int 0, .int 0]) (fun q1 => Mo.bind (M_X4_init q1) (fun v2 => Mo.bind (pF [2] t 0 (.ref q1)) (fun _ => Mo.bind (nwI 0 10) (fun q3 => Mo.bind (pF [2] t 1 (.ref q3)) (fun _ => Mo.bind (nwI 0 10) (fun q4 => Mo.bind (pF [2] t 2 (.ref q4)) (fun _ => Mo.bind (pF [2] t 3 (.int (-1))) (fun _ => Mo.pure ()))))))))
set_option maxHeartbeats 4000000 in
theorem ct_X3_init (G : gG) (t : Nat) : gCt G yX3_init cX3_init 1 none 2 41 [.ref t] (M_X3_init t) (fun _ : Unit => none) := by
  refine gCt.of (by decide) (Nat.le_of_ble_eq_true rfl) (fun K r hG X hd ho => ?_)
  subst hG
  have X : gX K cX3_init 1 "BitingDoors$Walker" "<init>" none 2 41 := X
  have hle : gLe (kh1 K) (kh1 K) := gLe.rf
  show V K 1 (kh0 K) 0 [(0, .ref t)] []
  generalize kh0 K = h at hd ⊢
  unfold M_X3_init at hd
  refine v_aload_n X dX3_init_0 0 0 rfl rfl ?_
  refine v_objInit X q256 q152 q153 (Nat.le_of_ble_eq_true rfl) dX3_init_1 (by decide) (by decide) ?_
  refine v_aload_n X dX3_init_4 0 0 rfl rfl ?_
  refine v_new X hd hle nw_X3_9 dX3_init_5 (fun q1 h hd => ?_)
  refine v_dup X dX3_init_8 rfl ?_
  refine v_callI X hd hle (ct_X4_init _ q1) q261 q114 q259 q260 rfl dn_X4_init rfl ⟨by decide, by decide⟩ rfl (Nat.le_of_ble_eq_true rfl) dX3_init_9 (fun v2 h hd => ?_)
  show V K 1 h 12 [(0, .ref t)] [.ref q1, .ref t]
  refine v_put (v := .ref q1) X hd fp_X3_12_i rfl rfl dX3_init_12 (fun h hd => ?_)
  refine v_aload_n X dX3_init_15 0 0 rfl rfl ?_
  refine v_bipush (v := 10) X dX3_init_16 (by decide) ?_
  refine v_newI X hd hle 0 rfl rfl rfl (fun _ z => by cases z) (by decide) q317 dX3_init_18 (fun q3 h hd => ?_)
  refine v_put (v := .ref q3) X hd fp_X3_18_i rfl rfl dX3_init_20 (fun h hd => ?_)
  refine v_aload_n X dX3_init_23 0 0 rfl rfl ?_
  refine v_bipush (v := 10) X dX3_init_24 (by decide) ?_
  refine v_newI X hd hle 0 rfl rfl rfl (fun _ z => by cases z) (by decide) q317 dX3_init_26 (fun q4 h hd => ?_)
  refine v_put (v := .ref q4) X hd fp_X3_22_i rfl rfl dX3_init_28 (fun h hd => ?_)
  refine v_aload_n X dX3_init_31 0 0 rfl rfl ?_
  refine v_iconst (v := (-1)) X dX3_init_32 (by decide) ?_
  refine v_put (v := .int (-1)) X hd fp_X3_25_i rfl rfl dX3_init_33 (fun h hd => ?_)
  exact v_vret X hd ho dX3_init_36
def dkwX1_image_2 : List UInt8 := [180, 0, 184, 27, 42, 180, 0, 100, 83, 42, 180, 0, 190, 27, 42, 180, 0, 227, 83, 4, 172]
abbrev dktX1_image_2 : List UInt8 := dkwX1_image_2 ++ []
def dkwX1_image_1 : List UInt8 := [27, 187, 0, 87, 89, 183, 0, 89, 83, 42, 180, 0, 180, 27, 50, 42, 180, 0, 90, 182, 1, 182, 42]
abbrev dktX1_image_1 : List UInt8 := dkwX1_image_1 ++ dktX1_image_2
def dkwX1_image_0 : List UInt8 := [27, 3, 4, 184, 0, 248, 154, 0, 5, 3, 172, 42, 180, 0, 180, 27, 50, 199, 0, 16, 42, 180, 0, 180]
abbrev dktX1_image_0 : List UInt8 := dkwX1_image_0 ++ dktX1_image_1
theorem dksX1_image_0 : cX1_image.data.toList.drop 0 = dktX1_image_0 := by decide +kernel
theorem dksX1_image_1 : cX1_image.data.toList.drop 24 = dktX1_image_1 := dk_seg dksX1_image_0 24 rfl rfl
theorem dksX1_image_2 : cX1_image.data.toList.drop 47 = dktX1_image_2 := dk_seg dksX1_image_1 23 rfl rfl
theorem dX1_image_0 : decode cX1_image 0 = .ok (.iload_n 1, 1) := dk_27 (dk_at dksX1_image_0 0 rfl rfl)
theorem dX1_image_1 : decode cX1_image 1 = .ok (.iconst 0, 1) := dk_3 (dk_at dksX1_image_0 1 rfl rfl)
theorem dX1_image_2 : decode cX1_image 2 = .ok (.iconst 1, 1) := dk_4 (dk_at dksX1_image_0 2 rfl rfl)
theorem dX1_image_3 : decode cX1_image 3 = .ok (.invokestatic 248, 3) := dk_184 0 248 (dk_at dksX1_image_0 3 rfl rfl)
theorem dX1_image_6 : decode cX1_image 6 = .ok (.ifCond .ne 5, 3) := dk_154 0 5 (dk_at dksX1_image_0 6 rfl rfl)
theorem dX1_image_9 : decode cX1_image 9 = .ok (.iconst 0, 1) := dk_3 (dk_at dksX1_image_0 9 rfl rfl)
theorem dX1_image_10 : decode cX1_image 10 = .ok (.ireturn, 1) := dk_172 (dk_at dksX1_image_0 10 rfl rfl)
theorem dX1_image_11 : decode cX1_image 11 = .ok (.aload_n 0, 1) := dk_42 (dk_at dksX1_image_0 11 rfl rfl)
theorem dX1_image_12 : decode cX1_image 12 = .ok (.getfield 180, 3) := dk_180 0 180 (dk_at dksX1_image_0 12 rfl rfl)
theorem dX1_image_15 : decode cX1_image 15 = .ok (.iload_n 1, 1) := dk_27 (dk_at dksX1_image_0 15 rfl rfl)
theorem dX1_image_16 : decode cX1_image 16 = .ok (.aaload, 1) := dk_50 (dk_at dksX1_image_0 16 rfl rfl)
theorem dX1_image_17 : decode cX1_image 17 = .ok (.ifnonnull 16, 3) := dk_199 0 16 (dk_at dksX1_image_0 17 rfl rfl)
theorem dX1_image_20 : decode cX1_image 20 = .ok (.aload_n 0, 1) := dk_42 (dk_at dksX1_image_0 20 rfl rfl)
theorem dX1_image_21 : decode cX1_image 21 = .ok (.getfield 180, 3) := dk_180 0 180 (dk_at dksX1_image_0 21 rfl rfl)
theorem dX1_image_24 : decode cX1_image 24 = .ok (.iload_n 1, 1) := dk_27 (dk_at dksX1_image_1 0 rfl rfl)
theorem dX1_image_25 : decode cX1_image 25 = .ok (.new 87, 3) := dk_187 0 87 (dk_at dksX1_image_1 1 rfl rfl)
theorem dX1_image_28 : decode cX1_image 28 = .ok (.dup, 1) := dk_89 (dk_at dksX1_image_1 4 rfl rfl)
theorem dX1_image_29 : decode cX1_image 29 = .ok (.invokespecial 89, 3) := dk_183 0 89 (dk_at dksX1_image_1 5 rfl rfl)
theorem dX1_image_32 : decode cX1_image 32 = .ok (.aastore, 1) := dk_83 (dk_at dksX1_image_1 8 rfl rfl)
theorem dX1_image_33 : decode cX1_image 33 = .ok (.aload_n 0, 1) := dk_42 (dk_at dksX1_image_1 9 rfl rfl)
theorem dX1_image_34 : decode cX1_image 34 = .ok (.getfield 180, 3) := dk_180 0 180 (dk_at dksX1_image_1 10 rfl rfl)
theorem dX1_image_37 : decode cX1_image 37 = .ok (.iload_n 1, 1) := dk_27 (dk_at dksX1_image_1 13 rfl rfl)
theorem dX1_image_38 : decode cX1_image 38 = .ok (.aaload, 1) := dk_50 (dk_at dksX1_image_1 14 rfl rfl)
theorem dX1_image_39 : decode cX1_image 39 = .ok (.aload_n 0, 1) := dk_42 (dk_at dksX1_image_1 15 rfl rfl)
theorem dX1_image_40 : decode cX1_image 40 = .ok (.getfield 90, 3) := dk_180 0 90 (dk_at dksX1_image_1 16 rfl rfl)
theorem dX1_image_43 : decode cX1_image 43 = .ok (.invokevirtual 438, 3) := dk_182 1 182 (dk_at dksX1_image_1 19 rfl rfl)
theorem dX1_image_46 : decode cX1_image 46 = .ok (.aload_n 0, 1) := dk_42 (dk_at dksX1_image_1 22 rfl rfl)
theorem dX1_image_47 : decode cX1_image 47 = .ok (.getfield 184, 3) := dk_180 0 184 (dk_at dksX1_image_2 0 rfl rfl)
theorem dX1_image_50 : decode cX1_image 50 = .ok (.iload_n 1, 1) := dk_27 (dk_at dksX1_image_2 3 rfl rfl)
theorem dX1_image_51 : decode cX1_image 51 = .ok (.aload_n 0, 1) := dk_42 (dk_at dksX1_image_2 4 rfl rfl)
theorem dX1_image_52 : decode cX1_image 52 = .ok (.getfield 100, 3) := dk_180 0 100 (dk_at dksX1_image_2 5 rfl rfl)
theorem dX1_image_55 : decode cX1_image 55 = .ok (.aastore, 1) := dk_83 (dk_at dksX1_image_2 8 rfl rfl)
theorem dX1_image_56 : decode cX1_image 56 = .ok (.aload_n 0, 1) := dk_42 (dk_at dksX1_image_2 9 rfl rfl)
theorem dX1_image_57 : decode cX1_image 57 = .ok (.getfield 190, 3) := dk_180 0 190 (dk_at dksX1_image_2 10 rfl rfl)
theorem dX1_image_60 : decode cX1_image 60 = .ok (.iload_n 1, 1) := dk_27 (dk_at dksX1_image_2 13 rfl rfl)
theorem dX1_image_61 : decode cX1_image 61 = .ok (.aload_n 0, 1) := dk_42 (dk_at dksX1_image_2 14 rfl rfl)
theorem dX1_image_62 : decode cX1_image 62 = .ok (.getfield 227, 3) := dk_180 0 227 (dk_at dksX1_image_2 15 rfl rfl)
theorem dX1_image_65 : decode cX1_image 65 = .ok (.aastore, 1) := dk_83 (dk_at dksX1_image_2 18 rfl rfl)
theorem dX1_image_66 : decode cX1_image 66 = .ok (.iconst 1, 1) := dk_4 (dk_at dksX1_image_2 19 rfl rfl)
theorem dX1_image_67 : decode cX1_image 67 = .ok (.ireturn, 1) := dk_172 (dk_at dksX1_image_2 20 rfl rfl)
theorem fl_X1_100 : gFl "BitingDoors" 100 [0] 11 := by
  intro args s hts hN ci hc
  simp only [List.mem_cons, List.not_mem_nil, or_false] at hc
  subst hc
  exact ⟨RX1, TX1, 46, "BitingDoors", gCl_X1, in_X1, by decide, Or.inl (hts _ q512), fun _ h => h⟩
theorem fl_X1_180 : gFl "BitingDoors" 180 [0] 43 := by
  intro args s hts hN ci hc
  simp only [List.mem_cons, List.not_mem_nil, or_false] at hc
  subst hc
  exact ⟨RX1, TX1, 46, "BitingDoors", gCl_X1, in_X1, by decide, Or.inl (hts _ q544), fun _ h => h⟩
theorem fl_X1_184 : gFl "BitingDoors" 184 [0] 44 := by
  intro args s hts hN ci hc
  simp only [List.mem_cons, List.not_mem_nil, or_false] at hc
  subst hc
  exact ⟨RX1, TX1, 46, "BitingDoors", gCl_X1, in_X1, by decide, Or.inl (hts _ q545), fun _ h => h⟩
theorem fl_X1_190 : gFl "BitingDoors" 190 [0] 45 := by
  intro args s hts hN ci hc
  simp only [List.mem_cons, List.not_mem_nil, or_false] at hc
  subst hc
  exact ⟨RX1, TX1, 46, "BitingDoors", gCl_X1, in_X1, by decide, Or.inl (hts _ q546), fun _ h => h⟩
theorem fl_X1_227 : gFl "BitingDoors" 227 [0] 42 := by
  intro args s hts hN ci hc
  simp only [List.mem_cons, List.not_mem_nil, or_false] at hc
  subst hc
  exact ⟨RX1, TX1, 46, "BitingDoors", gCl_X1, in_X1, by decide, Or.inl (hts _ q543), fun _ h => h⟩
theorem nw_X1_87 : gNw "BitingDoors" 87 2 6 [.null, .null, .null, .int 0, .int 0, .int 0] := ⟨RX3, TX3, tyX3, gCl_X3, in_X3, tyX3_ok, q251, q252, q113, by decide, rfl⟩
theorem dn_X1_image : yX1_image.cls ≠ "java/lang/invoke/MethodHandle" ∧ yX1_image.cls ≠ "java/lang/invoke/VarHandle" ∧ (parseMethodDescriptor yX1_image.desc).map (fun d => d.parameters.length) = some 1 := by decide +kernel
noncomputable def M_X1_image (t : Nat) (p1 : Int32) : Mo Bool := Mo.bind (chk [0] t) (fun _ => Mo.bind (M_X1_isIn p1 0 1) (fun v1 => cond v1 (Mo.bind (gR [0] t 43) (fun v2 => Mo.bind (aldN 7 v2 p1) (fun v3 => Mo.bind ((Mo.opt v3 (Mo.bind (gR [0] t 43) (fun v14 => Mo.bind (nw 2 6 [.null, .null, .null, .int 0, .int 0, .int 0]) (fun q15 => Mo.bind (M_X3_init q15) (fun v16 => Mo.bind (astN 7 v14 [2] p1 (some q15)) (fun _ => Mo.pure ()))))) (fun y4 => Mo.pure ()) : Mo (Unit))) (fun u5 => Mo.bind (gR [0] t 43) (fun v6 => Mo.bind (aldR 7 v6 p1) (fun v7 => Mo.bind (gR [0] t 9) (fun v8 => Mo.bind (M_X3_be v7 v8) (fun v9 => Mo.bind (gR [0] t 44) (fun v10 => Mo.bind (gR [0] t 11) (fun v11 => Mo.bind (astN 8 v10 [4] p1 (some v11)) (fun _ => Mo.bind (gR [0] t 45) (fun v12 => Mo.bind (gNu [0] t 42) (fun v13 => Mo.bind (astN 9 v12 [15, 16, 17, 18, 19, 20] p1 v13) (fun _ => Mo.pure true)))))))))))))) (Mo.pure false)))
set_option maxHeartbeats 4000000 in
theorem ct_X1_image (G : gG) (t : Nat) (p1 : Int32) : gCt G yX1_image cX1_image 2 (some .boolean) 3 81 [.ref t, .int p1] (M_X1_image t p1) (fun x : Bool => some (.int (b2i x))) := by
  refine gCt.of (by decide) (Nat.le_of_ble_eq_true rfl) (fun K r hG X hd ho => ?_)
  subst hG
  have X : gX K cX1_image 2 "BitingDoors" "image" (some .boolean) 3 81 := X
  have hle : gLe (kh1 K) (kh1 K) := gLe.rf
  show V K 2 (kh0 K) 0 [(0, .ref t), (1, .int p1)] []
  generalize kh0 K = h at hd ⊢
  unfold M_X1_image at hd
  obtain ⟨-, hd⟩ := chk_some hd
  refine v_iload_n X dX1_image_0 1 1 rfl rfl ?_
  refine v_iconst (v := 0) X dX1_image_1 (by decide) ?_
  refine v_iconst (v := 1) X dX1_image_2 (by decide) ?_
  refine v_callS X hd hle (ct_X1_isIn _ p1 0 1) (lw_S q1119 q688 q109 q689) dn_X1_isIn rfl ⟨by decide, by decide⟩ rfl (Nat.le_of_ble_eq_true rfl) dX1_image_3 (fun v1 h hd => ?_)
  show V K 2 h 6 [(0, .ref t), (1, .int p1)] [.int (b2i v1)]
  refine v_ifZ_ne (tgt := 11) X dX1_image_6 (by decide) (fun q => ?_) (fun q => ?_)
  · have hd := cnd_t q hd
    refine v_aload_n X dX1_image_11 0 0 rfl rfl ?_
    refine v_getR X hd fl_X1_180 dX1_image_12 (fun v2 hd => ?_)
    refine v_iload_n X dX1_image_15 1 1 rfl rfl ?_
    refine v_aldQ X hd 7 rfl (by decide) (by decide) dX1_image_16 (fun v3 hd => ?_)
    obtain ⟨u5, h1, hd, hd2⟩ := Mo.bind_some hd
    have KJ : V K 2 h1 33 [(0, .ref t), (1, .int p1)] [] := by
      clear hd
      have hd := hd2
      refine v_aload_n X dX1_image_33 0 0 rfl rfl ?_
      refine v_getR X hd fl_X1_180 dX1_image_34 (fun v6 hd => ?_)
      refine v_iload_n X dX1_image_37 1 1 rfl rfl ?_
      refine v_aldR X hd 7 rfl (by decide) (by decide) dX1_image_38 (fun v7 hd => ?_)
      refine v_aload_n X dX1_image_39 0 0 rfl rfl ?_
      refine v_getR X hd fl_X1_90 dX1_image_40 (fun v8 hd => ?_)
      refine v_callV X hd hle (ct_X3_be _ v7 v8) gCl_X3 (lw_V q1335 q1336 q1337 q113 q1338) ⟨rfl, dn_X3_be⟩ rfl ⟨by decide, by decide⟩ rfl (Nat.le_of_ble_eq_true rfl) dX1_image_43 (fun v9 h hd => ?_)
      show V K 2 h 46 [(0, .ref t), (1, .int p1)] []
      refine v_aload_n X dX1_image_46 0 0 rfl rfl ?_
      refine v_getR X hd fl_X1_184 dX1_image_47 (fun v10 hd => ?_)
      refine v_iload_n X dX1_image_50 1 1 rfl rfl ?_
      refine v_aload_n X dX1_image_51 0 0 rfl rfl ?_
      refine v_getR X hd fl_X1_100 dX1_image_52 (fun v11 hd => ?_)
      refine v_astN (x := (some v11)) X hd 8 rfl (by decide) (by decide) gca_8 dX1_image_55 (fun h hd => ?_)
      refine v_aload_n X dX1_image_56 0 0 rfl rfl ?_
      refine v_getR X hd fl_X1_190 dX1_image_57 (fun v12 hd => ?_)
      refine v_iload_n X dX1_image_60 1 1 rfl rfl ?_
      refine v_aload_n X dX1_image_61 0 0 rfl rfl ?_
      refine v_getN X hd fl_X1_227 dX1_image_62 (fun v13 hd => ?_)
      refine v_astN (x := v13) X hd 9 rfl (by decide) (by decide) gca_9 dX1_image_65 (fun h hd => ?_)
      refine v_iconst (v := 1) X dX1_image_66 (by decide) ?_
      exact v_zret X hd rfl ho dX1_image_67
    have hle := (Mo.le hd2).tr hle
    clear hd2
    refine v_ifnonnull (tgt := 33) X dX1_image_17 (by decide) (fun y4 q => ?_) (fun q => ?_)
    · have hd := opt_s q hd
      exact v_loc [0, 1] rfl (v_at (P := fun (u5 : Unit) h => V K 2 h 33 [(0, .ref t), (1, .int p1)] []) hd KJ)
    · have hd := opt_n q hd
      refine v_aload_n X dX1_image_20 0 0 rfl rfl ?_
      refine v_getR X hd fl_X1_180 dX1_image_21 (fun v14 hd => ?_)
      refine v_iload_n X dX1_image_24 1 1 rfl rfl ?_
      refine v_new X hd hle nw_X1_87 dX1_image_25 (fun q15 h hd => ?_)
      refine v_dup X dX1_image_28 rfl ?_
      refine v_callIN (host := "BitingDoors") X hd hle (ct_X3_init _ q15) (List.mem_of_getElem? (i := 0) rfl) q255 q113 q254 rfl dn_X3_init rfl ⟨by decide, by decide⟩ rfl (Nat.le_of_ble_eq_true rfl) dX1_image_29 (fun v16 h hd => ?_)
      show V K 2 h 32 [(0, .ref t), (1, .int p1)] [.ref q15, .int p1, .ref v14]
      refine v_astN (x := (some q15)) X hd 7 rfl (by decide) (by decide) gca_7 dX1_image_32 (fun h hd => ?_)
      exact v_loc [0, 1] rfl (v_at (P := fun (u5 : Unit) h => V K 2 h 33 [(0, .ref t), (1, .int p1)] []) hd KJ)
  · have hd := cnd_f q hd
    refine v_iconst (v := 0) X dX1_image_9 (by decide) ?_
    exact v_zret X hd rfl ho dX1_image_10
def dkwX1_restore_2 : List UInt8 := [27, 50, 181, 0, 227, 4, 172]
abbrev dktX1_restore_2 : List UInt8 := dkwX1_restore_2 ++ []
def dkwX1_restore_1 : List UInt8 := [42, 180, 0, 180, 27, 50, 182, 1, 182, 42, 42, 180, 0, 184, 27, 50, 181, 0, 100, 42, 42, 180, 0, 190]
abbrev dktX1_restore_1 : List UInt8 := dkwX1_restore_1 ++ dktX1_restore_2
def dkwX1_restore_0 : List UInt8 := [27, 3, 4, 184, 0, 248, 153, 0, 12, 42, 180, 0, 180, 27, 50, 199, 0, 5, 3, 172, 42, 180, 0, 90]
abbrev dktX1_restore_0 : List UInt8 := dkwX1_restore_0 ++ dktX1_restore_1
theorem dksX1_restore_0 : cX1_restore.data.toList.drop 0 = dktX1_restore_0 := by decide +kernel
theorem dksX1_restore_1 : cX1_restore.data.toList.drop 24 = dktX1_restore_1 := dk_seg dksX1_restore_0 24 rfl rfl
theorem dksX1_restore_2 : cX1_restore.data.toList.drop 48 = dktX1_restore_2 := dk_seg dksX1_restore_1 24 rfl rfl
theorem dX1_restore_0 : decode cX1_restore 0 = .ok (.iload_n 1, 1) := dk_27 (dk_at dksX1_restore_0 0 rfl rfl)
theorem dX1_restore_1 : decode cX1_restore 1 = .ok (.iconst 0, 1) := dk_3 (dk_at dksX1_restore_0 1 rfl rfl)
theorem dX1_restore_2 : decode cX1_restore 2 = .ok (.iconst 1, 1) := dk_4 (dk_at dksX1_restore_0 2 rfl rfl)
theorem dX1_restore_3 : decode cX1_restore 3 = .ok (.invokestatic 248, 3) := dk_184 0 248 (dk_at dksX1_restore_0 3 rfl rfl)
theorem dX1_restore_6 : decode cX1_restore 6 = .ok (.ifCond .eq 12, 3) := dk_153 0 12 (dk_at dksX1_restore_0 6 rfl rfl)
theorem dX1_restore_9 : decode cX1_restore 9 = .ok (.aload_n 0, 1) := dk_42 (dk_at dksX1_restore_0 9 rfl rfl)
theorem dX1_restore_10 : decode cX1_restore 10 = .ok (.getfield 180, 3) := dk_180 0 180 (dk_at dksX1_restore_0 10 rfl rfl)
theorem dX1_restore_13 : decode cX1_restore 13 = .ok (.iload_n 1, 1) := dk_27 (dk_at dksX1_restore_0 13 rfl rfl)
theorem dX1_restore_14 : decode cX1_restore 14 = .ok (.aaload, 1) := dk_50 (dk_at dksX1_restore_0 14 rfl rfl)
theorem dX1_restore_15 : decode cX1_restore 15 = .ok (.ifnonnull 5, 3) := dk_199 0 5 (dk_at dksX1_restore_0 15 rfl rfl)
theorem dX1_restore_18 : decode cX1_restore 18 = .ok (.iconst 0, 1) := dk_3 (dk_at dksX1_restore_0 18 rfl rfl)
theorem dX1_restore_19 : decode cX1_restore 19 = .ok (.ireturn, 1) := dk_172 (dk_at dksX1_restore_0 19 rfl rfl)
theorem dX1_restore_20 : decode cX1_restore 20 = .ok (.aload_n 0, 1) := dk_42 (dk_at dksX1_restore_0 20 rfl rfl)
theorem dX1_restore_21 : decode cX1_restore 21 = .ok (.getfield 90, 3) := dk_180 0 90 (dk_at dksX1_restore_0 21 rfl rfl)
theorem dX1_restore_24 : decode cX1_restore 24 = .ok (.aload_n 0, 1) := dk_42 (dk_at dksX1_restore_1 0 rfl rfl)
theorem dX1_restore_25 : decode cX1_restore 25 = .ok (.getfield 180, 3) := dk_180 0 180 (dk_at dksX1_restore_1 1 rfl rfl)
theorem dX1_restore_28 : decode cX1_restore 28 = .ok (.iload_n 1, 1) := dk_27 (dk_at dksX1_restore_1 4 rfl rfl)
theorem dX1_restore_29 : decode cX1_restore 29 = .ok (.aaload, 1) := dk_50 (dk_at dksX1_restore_1 5 rfl rfl)
theorem dX1_restore_30 : decode cX1_restore 30 = .ok (.invokevirtual 438, 3) := dk_182 1 182 (dk_at dksX1_restore_1 6 rfl rfl)
theorem dX1_restore_33 : decode cX1_restore 33 = .ok (.aload_n 0, 1) := dk_42 (dk_at dksX1_restore_1 9 rfl rfl)
theorem dX1_restore_34 : decode cX1_restore 34 = .ok (.aload_n 0, 1) := dk_42 (dk_at dksX1_restore_1 10 rfl rfl)
theorem dX1_restore_35 : decode cX1_restore 35 = .ok (.getfield 184, 3) := dk_180 0 184 (dk_at dksX1_restore_1 11 rfl rfl)
theorem dX1_restore_38 : decode cX1_restore 38 = .ok (.iload_n 1, 1) := dk_27 (dk_at dksX1_restore_1 14 rfl rfl)
theorem dX1_restore_39 : decode cX1_restore 39 = .ok (.aaload, 1) := dk_50 (dk_at dksX1_restore_1 15 rfl rfl)
theorem dX1_restore_40 : decode cX1_restore 40 = .ok (.putfield 100, 3) := dk_181 0 100 (dk_at dksX1_restore_1 16 rfl rfl)
theorem dX1_restore_43 : decode cX1_restore 43 = .ok (.aload_n 0, 1) := dk_42 (dk_at dksX1_restore_1 19 rfl rfl)
theorem dX1_restore_44 : decode cX1_restore 44 = .ok (.aload_n 0, 1) := dk_42 (dk_at dksX1_restore_1 20 rfl rfl)
theorem dX1_restore_45 : decode cX1_restore 45 = .ok (.getfield 190, 3) := dk_180 0 190 (dk_at dksX1_restore_1 21 rfl rfl)
theorem dX1_restore_48 : decode cX1_restore 48 = .ok (.iload_n 1, 1) := dk_27 (dk_at dksX1_restore_2 0 rfl rfl)
theorem dX1_restore_49 : decode cX1_restore 49 = .ok (.aaload, 1) := dk_50 (dk_at dksX1_restore_2 1 rfl rfl)
theorem dX1_restore_50 : decode cX1_restore 50 = .ok (.putfield 227, 3) := dk_181 0 227 (dk_at dksX1_restore_2 2 rfl rfl)
theorem dX1_restore_53 : decode cX1_restore 53 = .ok (.iconst 1, 1) := dk_4 (dk_at dksX1_restore_2 5 rfl rfl)
theorem dX1_restore_54 : decode cX1_restore 54 = .ok (.ireturn, 1) := dk_172 (dk_at dksX1_restore_2 6 rfl rfl)
theorem fp_X1_100 {nm : String} : gFp "BitingDoors" nm 100 [0] 11 (.object "BitingDoors$Day") := by
  intro args s hts hN ci hc
  simp only [List.mem_cons, List.not_mem_nil, or_false] at hc
  subst hc
  exact ⟨RX1, TX1, 46, "BitingDoors", gCl_X1, in_X1, by decide, Or.inl ⟨rfl, Or.inl (hts _ q512)⟩, fun _ h => h, rfl, fun D tys hK => gap_X1 hts hK⟩
theorem fp_X1_227 {nm : String} : gFp "BitingDoors" nm 227 [0] 42 (.object "BitingDoors$Cond") := by
  intro args s hts hN ci hc
  simp only [List.mem_cons, List.not_mem_nil, or_false] at hc
  subst hc
  exact ⟨RX1, TX1, 46, "BitingDoors", gCl_X1, in_X1, by decide, Or.inl ⟨rfl, Or.inl (hts _ q543)⟩, fun _ h => h, rfl, fun D tys hK => gap_X1 hts hK⟩
theorem dn_X1_restore : yX1_restore.cls ≠ "java/lang/invoke/MethodHandle" ∧ yX1_restore.cls ≠ "java/lang/invoke/VarHandle" ∧ (parseMethodDescriptor yX1_restore.desc).map (fun d => d.parameters.length) = some 1 := by decide +kernel
noncomputable def M_X1_restore (t : Nat) (p1 : Int32) : Mo Bool := Mo.bind (chk [0] t) (fun _ => Mo.bind (M_X1_isIn p1 0 1) (fun v1 => cond v1 (Mo.bind (gR [0] t 43) (fun v2 => Mo.bind (aldN 7 v2 p1) (fun v3 => Mo.opt v3 (Mo.pure false) (fun y4 => Mo.bind (gR [0] t 9) (fun v5 => Mo.bind (gR [0] t 43) (fun v6 => Mo.bind (aldR 7 v6 p1) (fun v7 => Mo.bind (M_X3_be v5 v7) (fun v8 => Mo.bind (gR [0] t 44) (fun v9 => Mo.bind (aldR 8 v9 p1) (fun v10 => Mo.bind (pF [0] t 11 (.ref v10)) (fun _ => Mo.bind (gR [0] t 45) (fun v11 => Mo.bind (aldN 9 v11 p1) (fun v12 => Mo.bind (pF [0] t 42 (va_rf v12)) (fun _ => Mo.pure true)))))))))))))) (Mo.pure false)))
set_option maxHeartbeats 4000000 in
theorem ct_X1_restore (G : gG) (t : Nat) (p1 : Int32) : gCt G yX1_restore cX1_restore 2 (some .boolean) 2 81 [.ref t, .int p1] (M_X1_restore t p1) (fun x : Bool => some (.int (b2i x))) := by
  refine gCt.of (by decide) (Nat.le_of_ble_eq_true rfl) (fun K r hG X hd ho => ?_)
  subst hG
  have X : gX K cX1_restore 2 "BitingDoors" "restore" (some .boolean) 2 81 := X
  have hle : gLe (kh1 K) (kh1 K) := gLe.rf
  show V K 2 (kh0 K) 0 [(0, .ref t), (1, .int p1)] []
  generalize kh0 K = h at hd ⊢
  unfold M_X1_restore at hd
  obtain ⟨-, hd⟩ := chk_some hd
  refine v_iload_n X dX1_restore_0 1 1 rfl rfl ?_
  refine v_iconst (v := 0) X dX1_restore_1 (by decide) ?_
  refine v_iconst (v := 1) X dX1_restore_2 (by decide) ?_
  refine v_callS X hd hle (ct_X1_isIn _ p1 0 1) (lw_S q1119 q688 q109 q689) dn_X1_isIn rfl ⟨by decide, by decide⟩ rfl (Nat.le_of_ble_eq_true rfl) dX1_restore_3 (fun v1 h hd => ?_)
  show V K 2 h 6 [(0, .ref t), (1, .int p1)] [.int (b2i v1)]
  refine v_ifZ_eq (tgt := 18) X dX1_restore_6 (by decide) (fun q => ?_) (fun q => ?_)
  · have hd := cnd_f q hd
    refine v_iconst (v := 0) X dX1_restore_18 (by decide) ?_
    exact v_zret X hd rfl ho dX1_restore_19
  · have hd := cnd_t q hd
    refine v_aload_n X dX1_restore_9 0 0 rfl rfl ?_
    refine v_getR X hd fl_X1_180 dX1_restore_10 (fun v2 hd => ?_)
    refine v_iload_n X dX1_restore_13 1 1 rfl rfl ?_
    refine v_aldQ X hd 7 rfl (by decide) (by decide) dX1_restore_14 (fun v3 hd => ?_)
    refine v_ifnonnull (tgt := 20) X dX1_restore_15 (by decide) (fun y4 q => ?_) (fun q => ?_)
    · have hd := opt_s q hd
      refine v_aload_n X dX1_restore_20 0 0 rfl rfl ?_
      refine v_getR X hd fl_X1_90 dX1_restore_21 (fun v5 hd => ?_)
      refine v_aload_n X dX1_restore_24 0 0 rfl rfl ?_
      refine v_getR X hd fl_X1_180 dX1_restore_25 (fun v6 hd => ?_)
      refine v_iload_n X dX1_restore_28 1 1 rfl rfl ?_
      refine v_aldR X hd 7 rfl (by decide) (by decide) dX1_restore_29 (fun v7 hd => ?_)
      refine v_callV X hd hle (ct_X3_be _ v5 v7) gCl_X3 (lw_V q1335 q1336 q1337 q113 q1338) ⟨rfl, dn_X3_be⟩ rfl ⟨by decide, by decide⟩ rfl (Nat.le_of_ble_eq_true rfl) dX1_restore_30 (fun v8 h hd => ?_)
      show V K 2 h 33 [(0, .ref t), (1, .int p1)] []
      refine v_aload_n X dX1_restore_33 0 0 rfl rfl ?_
      refine v_aload_n X dX1_restore_34 0 0 rfl rfl ?_
      refine v_getR X hd fl_X1_184 dX1_restore_35 (fun v9 hd => ?_)
      refine v_iload_n X dX1_restore_38 1 1 rfl rfl ?_
      refine v_aldR X hd 8 rfl (by decide) (by decide) dX1_restore_39 (fun v10 hd => ?_)
      refine v_put (v := .ref v10) X hd fp_X1_100 rfl rfl dX1_restore_40 (fun h hd => ?_)
      refine v_aload_n X dX1_restore_43 0 0 rfl rfl ?_
      refine v_aload_n X dX1_restore_44 0 0 rfl rfl ?_
      refine v_getR X hd fl_X1_190 dX1_restore_45 (fun v11 hd => ?_)
      refine v_iload_n X dX1_restore_48 1 1 rfl rfl ?_
      refine v_aldQ X hd 9 rfl (by decide) (by decide) dX1_restore_49 (fun v12 hd => ?_)
      refine v_put (v := va_rf v12) X hd fp_X1_227 (nar_rf _ rfl) (fits_rf _ rfl) dX1_restore_50 (fun h hd => ?_)
      refine v_iconst (v := 1) X dX1_restore_53 (by decide) ?_
      exact v_zret X hd rfl ho dX1_restore_54
    · have hd := opt_n q hd
      refine v_iconst (v := 0) X dX1_restore_18 (by decide) ?_
      exact v_zret X hd rfl ho dX1_restore_19
def dkwX11_leaf_2_0 : List UInt8 := [42, 180, 0, 11, 6, 27, 104, 28, 96, 50, 176]
abbrev dktX11_leaf_2_0 : List UInt8 := dkwX11_leaf_2_0 ++ []
theorem dksX11_leaf_2_0 : cX11_leaf_2.data.toList.drop 0 = dktX11_leaf_2_0 := by decide +kernel
theorem dX11_leaf_2_0 : decode cX11_leaf_2 0 = .ok (.aload_n 0, 1) := dk_42 (dk_at dksX11_leaf_2_0 0 rfl rfl)
theorem dX11_leaf_2_1 : decode cX11_leaf_2 1 = .ok (.getfield 11, 3) := dk_180 0 11 (dk_at dksX11_leaf_2_0 1 rfl rfl)
theorem dX11_leaf_2_4 : decode cX11_leaf_2 4 = .ok (.iconst 3, 1) := dk_6 (dk_at dksX11_leaf_2_0 4 rfl rfl)
theorem dX11_leaf_2_5 : decode cX11_leaf_2 5 = .ok (.iload_n 1, 1) := dk_27 (dk_at dksX11_leaf_2_0 5 rfl rfl)
theorem dX11_leaf_2_6 : decode cX11_leaf_2 6 = .ok (.imul, 1) := dk_104 (dk_at dksX11_leaf_2_0 6 rfl rfl)
theorem dX11_leaf_2_7 : decode cX11_leaf_2 7 = .ok (.iload_n 2, 1) := dk_28 (dk_at dksX11_leaf_2_0 7 rfl rfl)
theorem dX11_leaf_2_8 : decode cX11_leaf_2 8 = .ok (.iadd, 1) := dk_96 (dk_at dksX11_leaf_2_0 8 rfl rfl)
theorem dX11_leaf_2_9 : decode cX11_leaf_2 9 = .ok (.aaload, 1) := dk_50 (dk_at dksX11_leaf_2_0 9 rfl rfl)
theorem dX11_leaf_2_10 : decode cX11_leaf_2 10 = .ok (.areturn, 1) := dk_176 (dk_at dksX11_leaf_2_0 10 rfl rfl)
theorem fl_X11_11 : gFl "BitingDoors$Door" 11 [9] 5 := by
  intro args s hts hN ci hc
  simp only [List.mem_cons, List.not_mem_nil, or_false] at hc
  subst hc
  exact ⟨RX11, TX11, 12, "BitingDoors$Door", gCl_X11, in_X11, by decide, Or.inl (hts _ q850), fun _ h => h⟩
theorem dn_X11_leaf_2 : yX11_leaf_2.cls ≠ "java/lang/invoke/MethodHandle" ∧ yX11_leaf_2.cls ≠ "java/lang/invoke/VarHandle" ∧ (parseMethodDescriptor yX11_leaf_2.desc).map (fun d => d.parameters.length) = some 2 := by decide +kernel
noncomputable def M_X11_leaf_2 (t : Nat) (p1 : Int32) (p2 : Int32) : Mo Nat := Mo.bind (chk [9] t) (fun _ => Mo.bind (gR [9] t 5) (fun v1 => Mo.bind (aldR 4 v1 ((3 * p1) + p2)) (fun v2 => Mo.pure v2)))
set_option maxHeartbeats 4000000 in
theorem ct_X11_leaf_2 (G : gG) (t : Nat) (p1 : Int32) (p2 : Int32) : gCt G yX11_leaf_2 cX11_leaf_2 3 (some (.object "BitingDoors$Cells")) 0 0 [.ref t, .int p1, .int p2] (M_X11_leaf_2 t p1 p2) (fun x : Nat => some (.ref x)) := by
  refine gCt.of (by decide) (Nat.le_of_ble_eq_true rfl) (fun K r hG X hd ho => ?_)
  subst hG
  have X : gX K cX11_leaf_2 3 "BitingDoors$Door" "leaf" (some (.object "BitingDoors$Cells")) 0 0 := X
  have hle : gLe (kh1 K) (kh1 K) := gLe.rf
  show V K 3 (kh0 K) 0 [(0, .ref t), (1, .int p1), (2, .int p2)] []
  generalize kh0 K = h at hd ⊢
  unfold M_X11_leaf_2 at hd
  obtain ⟨-, hd⟩ := chk_some hd
  refine v_aload_n X dX11_leaf_2_0 0 0 rfl rfl ?_
  refine v_getR X hd fl_X11_11 dX11_leaf_2_1 (fun v1 hd => ?_)
  refine v_iconst (v := 3) X dX11_leaf_2_4 (by decide) ?_
  refine v_iload_n X dX11_leaf_2_5 1 1 rfl rfl ?_
  refine v_imul X dX11_leaf_2_6 ?_
  refine v_iload_n X dX11_leaf_2_7 2 2 rfl rfl ?_
  refine v_iadd X dX11_leaf_2_8 ?_
  refine v_aldR X hd 4 rfl (by decide) (by decide) dX11_leaf_2_9 (fun v2 hd => ?_)
  exact v_aret X rfl (Or.inl ⟨_, rfl⟩) hd ho dX11_leaf_2_10
def dkwX3_leaf_1 : List UInt8 := [176]
abbrev dktX3_leaf_1 : List UInt8 := dkwX3_leaf_1 ++ []
def dkwX3_leaf_0 : List UInt8 := [42, 180, 0, 12, 180, 0, 32, 27, 50, 42, 180, 0, 18, 27, 46, 42, 180, 0, 22, 27, 46, 182, 0, 49]
abbrev dktX3_leaf_0 : List UInt8 := dkwX3_leaf_0 ++ dktX3_leaf_1
theorem dksX3_leaf_0 : cX3_leaf.data.toList.drop 0 = dktX3_leaf_0 := by decide +kernel
theorem dksX3_leaf_1 : cX3_leaf.data.toList.drop 24 = dktX3_leaf_1 := dk_seg dksX3_leaf_0 24 rfl rfl
theorem dX3_leaf_0 : decode cX3_leaf 0 = .ok (.aload_n 0, 1) := dk_42 (dk_at dksX3_leaf_0 0 rfl rfl)
theorem dX3_leaf_1 : decode cX3_leaf 1 = .ok (.getfield 12, 3) := dk_180 0 12 (dk_at dksX3_leaf_0 1 rfl rfl)
theorem dX3_leaf_4 : decode cX3_leaf 4 = .ok (.getfield 32, 3) := dk_180 0 32 (dk_at dksX3_leaf_0 4 rfl rfl)
theorem dX3_leaf_7 : decode cX3_leaf 7 = .ok (.iload_n 1, 1) := dk_27 (dk_at dksX3_leaf_0 7 rfl rfl)
theorem dX3_leaf_8 : decode cX3_leaf 8 = .ok (.aaload, 1) := dk_50 (dk_at dksX3_leaf_0 8 rfl rfl)
theorem dX3_leaf_9 : decode cX3_leaf 9 = .ok (.aload_n 0, 1) := dk_42 (dk_at dksX3_leaf_0 9 rfl rfl)
theorem dX3_leaf_10 : decode cX3_leaf 10 = .ok (.getfield 18, 3) := dk_180 0 18 (dk_at dksX3_leaf_0 10 rfl rfl)
theorem dX3_leaf_13 : decode cX3_leaf 13 = .ok (.iload_n 1, 1) := dk_27 (dk_at dksX3_leaf_0 13 rfl rfl)
theorem dX3_leaf_14 : decode cX3_leaf 14 = .ok (.iaload, 1) := dk_46 (dk_at dksX3_leaf_0 14 rfl rfl)
theorem dX3_leaf_15 : decode cX3_leaf 15 = .ok (.aload_n 0, 1) := dk_42 (dk_at dksX3_leaf_0 15 rfl rfl)
theorem dX3_leaf_16 : decode cX3_leaf 16 = .ok (.getfield 22, 3) := dk_180 0 22 (dk_at dksX3_leaf_0 16 rfl rfl)
theorem dX3_leaf_19 : decode cX3_leaf 19 = .ok (.iload_n 1, 1) := dk_27 (dk_at dksX3_leaf_0 19 rfl rfl)
theorem dX3_leaf_20 : decode cX3_leaf 20 = .ok (.iaload, 1) := dk_46 (dk_at dksX3_leaf_0 20 rfl rfl)
theorem dX3_leaf_21 : decode cX3_leaf 21 = .ok (.invokevirtual 49, 3) := dk_182 0 49 (dk_at dksX3_leaf_0 21 rfl rfl)
theorem dX3_leaf_24 : decode cX3_leaf 24 = .ok (.areturn, 1) := dk_176 (dk_at dksX3_leaf_1 0 rfl rfl)
theorem fl_X3_32 : gFl "BitingDoors$Walker" 32 [3] 2 := by
  intro args s hts hN ci hc
  simp only [List.mem_cons, List.not_mem_nil, or_false] at hc
  subst hc
  exact ⟨RX4, TX4, 9, "BitingDoors$House", gCl_X4, in_X4, by decide, Or.inr ⟨"BitingDoors", va_Nw.use rfl (hN.1 ("BitingDoors$Walker", 32, "BitingDoors$House", "doors", "[LBitingDoors$Door;", "BitingDoors") (List.mem_of_getElem? (i := 26) rfl))⟩, fun _ h => h⟩
theorem dn_X3_leaf : yX3_leaf.cls ≠ "java/lang/invoke/MethodHandle" ∧ yX3_leaf.cls ≠ "java/lang/invoke/VarHandle" ∧ (parseMethodDescriptor yX3_leaf.desc).map (fun d => d.parameters.length) = some 1 := by decide +kernel
noncomputable def M_X3_leaf (t : Nat) (p1 : Int32) : Mo Nat := Mo.bind (chk [2] t) (fun _ => Mo.bind (gR [2] t 0) (fun v1 => Mo.bind (gR [3] v1 2) (fun v2 => Mo.bind (aldR 5 v2 p1) (fun v3 => Mo.bind (gR [2] t 1) (fun v4 => Mo.bind (aldI 0 v4 p1) (fun v5 => Mo.bind (gR [2] t 2) (fun v6 => Mo.bind (aldI 0 v6 p1) (fun v7 => Mo.bind (M_X11_leaf_2 v3 v5 v7) (fun v8 => Mo.pure v8)))))))))
set_option maxHeartbeats 4000000 in
theorem ct_X3_leaf (G : gG) (t : Nat) (p1 : Int32) : gCt G yX3_leaf cX3_leaf 2 (some (.object "BitingDoors$Cells")) 1 22 [.ref t, .int p1] (M_X3_leaf t p1) (fun x : Nat => some (.ref x)) := by
  refine gCt.of (by decide) (Nat.le_of_ble_eq_true rfl) (fun K r hG X hd ho => ?_)
  subst hG
  have X : gX K cX3_leaf 2 "BitingDoors$Walker" "leaf" (some (.object "BitingDoors$Cells")) 1 22 := X
  have hle : gLe (kh1 K) (kh1 K) := gLe.rf
  show V K 2 (kh0 K) 0 [(0, .ref t), (1, .int p1)] []
  generalize kh0 K = h at hd ⊢
  unfold M_X3_leaf at hd
  obtain ⟨-, hd⟩ := chk_some hd
  refine v_aload_n X dX3_leaf_0 0 0 rfl rfl ?_
  refine v_getR X hd fl_X3_12 dX3_leaf_1 (fun v1 hd => ?_)
  refine v_getR X hd fl_X3_32 dX3_leaf_4 (fun v2 hd => ?_)
  refine v_iload_n X dX3_leaf_7 1 1 rfl rfl ?_
  refine v_aldR X hd 5 rfl (by decide) (by decide) dX3_leaf_8 (fun v3 hd => ?_)
  refine v_aload_n X dX3_leaf_9 0 0 rfl rfl ?_
  refine v_getR X hd fl_X3_18 dX3_leaf_10 (fun v4 hd => ?_)
  refine v_iload_n X dX3_leaf_13 1 1 rfl rfl ?_
  refine v_iald X hd dX3_leaf_14 (fun v5 hd => ?_)
  refine v_aload_n X dX3_leaf_15 0 0 rfl rfl ?_
  refine v_getR X hd fl_X3_22 dX3_leaf_16 (fun v6 hd => ?_)
  refine v_iload_n X dX3_leaf_19 1 1 rfl rfl ?_
  refine v_iald X hd dX3_leaf_20 (fun v7 hd => ?_)
  refine v_callV X hd hle (ct_X11_leaf_2 _ v3 v5 v7) gCl_X11 (lw_V q1287 q979 q980 q125 q981) ⟨rfl, dn_X11_leaf_2⟩ rfl ⟨by decide, by decide⟩ rfl (Nat.le_of_ble_eq_true rfl) dX3_leaf_21 (fun v8 h hd => ?_)
  show V K 2 h 24 [(0, .ref t), (1, .int p1)] [.ref v8]
  exact v_aret X rfl (Or.inl ⟨_, rfl⟩) hd ho dX3_leaf_24
def dkwX4_isCell_1 : List UInt8 := [184, 0, 34, 153, 0, 7, 4, 167, 0, 4, 3, 172]
abbrev dktX4_isCell_1 : List UInt8 := dkwX4_isCell_1 ++ []
def dkwX4_isCell_0 : List UInt8 := [27, 3, 42, 180, 0, 31, 4, 100, 184, 0, 34, 153, 0, 21, 28, 3, 42, 180, 0, 38, 4, 100]
abbrev dktX4_isCell_0 : List UInt8 := dkwX4_isCell_0 ++ dktX4_isCell_1
theorem dksX4_isCell_0 : cX4_isCell.data.toList.drop 0 = dktX4_isCell_0 := by decide +kernel
theorem dksX4_isCell_1 : cX4_isCell.data.toList.drop 22 = dktX4_isCell_1 := dk_seg dksX4_isCell_0 22 rfl rfl
theorem dX4_isCell_0 : decode cX4_isCell 0 = .ok (.iload_n 1, 1) := dk_27 (dk_at dksX4_isCell_0 0 rfl rfl)
theorem dX4_isCell_1 : decode cX4_isCell 1 = .ok (.iconst 0, 1) := dk_3 (dk_at dksX4_isCell_0 1 rfl rfl)
theorem dX4_isCell_2 : decode cX4_isCell 2 = .ok (.aload_n 0, 1) := dk_42 (dk_at dksX4_isCell_0 2 rfl rfl)
theorem dX4_isCell_3 : decode cX4_isCell 3 = .ok (.getfield 31, 3) := dk_180 0 31 (dk_at dksX4_isCell_0 3 rfl rfl)
theorem dX4_isCell_6 : decode cX4_isCell 6 = .ok (.iconst 1, 1) := dk_4 (dk_at dksX4_isCell_0 6 rfl rfl)
theorem dX4_isCell_7 : decode cX4_isCell 7 = .ok (.isub, 1) := dk_100 (dk_at dksX4_isCell_0 7 rfl rfl)
theorem dX4_isCell_8 : decode cX4_isCell 8 = .ok (.invokestatic 34, 3) := dk_184 0 34 (dk_at dksX4_isCell_0 8 rfl rfl)
theorem dX4_isCell_11 : decode cX4_isCell 11 = .ok (.ifCond .eq 21, 3) := dk_153 0 21 (dk_at dksX4_isCell_0 11 rfl rfl)
theorem dX4_isCell_14 : decode cX4_isCell 14 = .ok (.iload_n 2, 1) := dk_28 (dk_at dksX4_isCell_0 14 rfl rfl)
theorem dX4_isCell_15 : decode cX4_isCell 15 = .ok (.iconst 0, 1) := dk_3 (dk_at dksX4_isCell_0 15 rfl rfl)
theorem dX4_isCell_16 : decode cX4_isCell 16 = .ok (.aload_n 0, 1) := dk_42 (dk_at dksX4_isCell_0 16 rfl rfl)
theorem dX4_isCell_17 : decode cX4_isCell 17 = .ok (.getfield 38, 3) := dk_180 0 38 (dk_at dksX4_isCell_0 17 rfl rfl)
theorem dX4_isCell_20 : decode cX4_isCell 20 = .ok (.iconst 1, 1) := dk_4 (dk_at dksX4_isCell_0 20 rfl rfl)
theorem dX4_isCell_21 : decode cX4_isCell 21 = .ok (.isub, 1) := dk_100 (dk_at dksX4_isCell_0 21 rfl rfl)
theorem dX4_isCell_22 : decode cX4_isCell 22 = .ok (.invokestatic 34, 3) := dk_184 0 34 (dk_at dksX4_isCell_1 0 rfl rfl)
theorem dX4_isCell_25 : decode cX4_isCell 25 = .ok (.ifCond .eq 7, 3) := dk_153 0 7 (dk_at dksX4_isCell_1 3 rfl rfl)
theorem dX4_isCell_28 : decode cX4_isCell 28 = .ok (.iconst 1, 1) := dk_4 (dk_at dksX4_isCell_1 6 rfl rfl)
theorem dX4_isCell_29 : decode cX4_isCell 29 = .ok (.goto 4, 3) := dk_167 0 4 (dk_at dksX4_isCell_1 7 rfl rfl)
theorem dX4_isCell_32 : decode cX4_isCell 32 = .ok (.iconst 0, 1) := dk_3 (dk_at dksX4_isCell_1 10 rfl rfl)
theorem dX4_isCell_33 : decode cX4_isCell 33 = .ok (.ireturn, 1) := dk_172 (dk_at dksX4_isCell_1 11 rfl rfl)
theorem fl_X4_31 : gFl "BitingDoors$House" 31 [3] 4 := by
  intro args s hts hN ci hc
  simp only [List.mem_cons, List.not_mem_nil, or_false] at hc
  subst hc
  exact ⟨RX4, TX4, 9, "BitingDoors$House", gCl_X4, in_X4, by decide, Or.inl (hts _ q280), fun _ h => h⟩
theorem fl_X4_38 : gFl "BitingDoors$House" 38 [3] 5 := by
  intro args s hts hN ci hc
  simp only [List.mem_cons, List.not_mem_nil, or_false] at hc
  subst hc
  exact ⟨RX4, TX4, 9, "BitingDoors$House", gCl_X4, in_X4, by decide, Or.inl (hts _ q283), fun _ h => h⟩
theorem dn_X4_isCell : yX4_isCell.cls ≠ "java/lang/invoke/MethodHandle" ∧ yX4_isCell.cls ≠ "java/lang/invoke/VarHandle" ∧ (parseMethodDescriptor yX4_isCell.desc).map (fun d => d.parameters.length) = some 2 := by decide +kernel
noncomputable def M_X4_isCell (t : Nat) (p1 : Int32) (p2 : Int32) : Mo Bool := Mo.bind (chk [3] t) (fun _ => Mo.bind (gI [3] t 4) (fun v1 => Mo.bind (M_X1_isIn p1 0 (v1 - 1)) (fun v2 => Mo.bind ((cond v2 (Mo.bind (gI [3] t 5) (fun v4 => Mo.bind (M_X1_isIn p2 0 (v4 - 1)) (fun v5 => cond v5 (Mo.pure true) (Mo.pure false)))) (Mo.pure false) : Mo (Bool))) (fun u3 => Mo.pure u3))))
set_option maxHeartbeats 4000000 in
theorem ct_X4_isCell (G : gG) (t : Nat) (p1 : Int32) (p2 : Int32) : gCt G yX4_isCell cX4_isCell 3 (some .boolean) 1 22 [.ref t, .int p1, .int p2] (M_X4_isCell t p1 p2) (fun x : Bool => some (.int (b2i x))) := by
  refine gCt.of (by decide) (Nat.le_of_ble_eq_true rfl) (fun K r hG X hd ho => ?_)
  subst hG
  have X : gX K cX4_isCell 3 "BitingDoors$House" "isCell" (some .boolean) 1 22 := X
  have hle : gLe (kh1 K) (kh1 K) := gLe.rf
  show V K 3 (kh0 K) 0 [(0, .ref t), (1, .int p1), (2, .int p2)] []
  generalize kh0 K = h at hd ⊢
  unfold M_X4_isCell at hd
  obtain ⟨-, hd⟩ := chk_some hd
  refine v_iload_n X dX4_isCell_0 1 1 rfl rfl ?_
  refine v_iconst (v := 0) X dX4_isCell_1 (by decide) ?_
  refine v_aload_n X dX4_isCell_2 0 0 rfl rfl ?_
  refine v_getI X hd fl_X4_31 dX4_isCell_3 (fun v1 hd => ?_)
  refine v_iconst (v := 1) X dX4_isCell_6 (by decide) ?_
  refine v_isub X dX4_isCell_7 ?_
  refine v_callSN (host := "BitingDoors") X hd hle (ct_X1_isIn _ p1 0 (v1 - 1)) (List.mem_of_getElem? (i := 3) rfl) q689 q688 q109 dn_X1_isIn rfl ⟨by decide, by decide⟩ rfl (Nat.le_of_ble_eq_true rfl) dX4_isCell_8 (fun v2 h hd => ?_)
  show V K 3 h 11 [(0, .ref t), (1, .int p1), (2, .int p2)] [.int (b2i v2)]
  obtain ⟨u3, h1, hd, hd2⟩ := Mo.bind_some hd
  have KJ : V K 3 h1 33 [] [.int (b2i u3)] := by
    clear hd
    have hd := hd2
    exact v_zret X hd rfl ho dX4_isCell_33
  have hle := (Mo.le hd2).tr hle
  clear hd2
  refine v_ifZ_eq (tgt := 32) X dX4_isCell_11 (by decide) (fun q => ?_) (fun q => ?_)
  · have hd := cnd_f q hd
    refine v_iconst (v := 0) X dX4_isCell_32 (by decide) ?_
    exact v_loc [] rfl (v_at (P := fun (u3 : Bool) h => V K 3 h 33 [] [.int (b2i u3)]) hd KJ)
  · have hd := cnd_t q hd
    refine v_iload_n X dX4_isCell_14 2 2 rfl rfl ?_
    refine v_iconst (v := 0) X dX4_isCell_15 (by decide) ?_
    refine v_aload_n X dX4_isCell_16 0 0 rfl rfl ?_
    refine v_getI X hd fl_X4_38 dX4_isCell_17 (fun v4 hd => ?_)
    refine v_iconst (v := 1) X dX4_isCell_20 (by decide) ?_
    refine v_isub X dX4_isCell_21 ?_
    refine v_callSN (host := "BitingDoors") X hd hle (ct_X1_isIn _ p2 0 (v4 - 1)) (List.mem_of_getElem? (i := 3) rfl) q689 q688 q109 dn_X1_isIn rfl ⟨by decide, by decide⟩ rfl (Nat.le_of_ble_eq_true rfl) dX4_isCell_22 (fun v5 h hd => ?_)
    show V K 3 h 25 [(0, .ref t), (1, .int p1), (2, .int p2)] [.int (b2i v5)]
    refine v_ifZ_eq (tgt := 32) X dX4_isCell_25 (by decide) (fun q => ?_) (fun q => ?_)
    · have hd := cnd_f q hd
      refine v_iconst (v := 0) X dX4_isCell_32 (by decide) ?_
      exact v_loc [] rfl (v_at (P := fun (u3 : Bool) h => V K 3 h 33 [] [.int (b2i u3)]) hd KJ)
    · have hd := cnd_t q hd
      refine v_iconst (v := 1) X dX4_isCell_28 (by decide) ?_
      refine v_goto (tgt := 33) X dX4_isCell_29 (by decide) ?_
      exact v_loc [] rfl (v_at (P := fun (u3 : Bool) h => V K 3 h 33 [] [.int (b2i u3)]) hd KJ)
