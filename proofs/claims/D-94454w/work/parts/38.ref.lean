set_option maxRecDepth 100000
def dkwX10_findRead_1 : List UInt8 := [154, 0, 5, 27, 172, 132, 1, 1, 167, 255, 227, 2, 172]
abbrev dktX10_findRead_1 : List UInt8 := dkwX10_findRead_1 ++ []
def dkwX10_findRead_0 : List UInt8 := [3, 60, 27, 42, 180, 0, 16, 5, 46, 162, 0, 25, 42, 180, 0, 29, 27, 47, 42, 180, 0, 144, 148]
abbrev dktX10_findRead_0 : List UInt8 := dkwX10_findRead_0 ++ dktX10_findRead_1
theorem dksX10_findRead_0 : cX10_findRead.data.toList.drop 0 = dktX10_findRead_0 := by decide +kernel
theorem dksX10_findRead_1 : cX10_findRead.data.toList.drop 23 = dktX10_findRead_1 := dk_seg dksX10_findRead_0 23 rfl rfl
theorem dX10_findRead_0 : decode cX10_findRead 0 = .ok (.iconst 0, 1) := dk_3 (dk_at dksX10_findRead_0 0 rfl rfl)
theorem dX10_findRead_1 : decode cX10_findRead 1 = .ok (.istore_n 1, 1) := dk_60 (dk_at dksX10_findRead_0 1 rfl rfl)
theorem dX10_findRead_2 : decode cX10_findRead 2 = .ok (.iload_n 1, 1) := dk_27 (dk_at dksX10_findRead_0 2 rfl rfl)
theorem dX10_findRead_3 : decode cX10_findRead 3 = .ok (.aload_n 0, 1) := dk_42 (dk_at dksX10_findRead_0 3 rfl rfl)
theorem dX10_findRead_4 : decode cX10_findRead 4 = .ok (.getfield 16, 3) := dk_180 0 16 (dk_at dksX10_findRead_0 4 rfl rfl)
theorem dX10_findRead_7 : decode cX10_findRead 7 = .ok (.iconst 2, 1) := dk_5 (dk_at dksX10_findRead_0 7 rfl rfl)
theorem dX10_findRead_8 : decode cX10_findRead 8 = .ok (.iaload, 1) := dk_46 (dk_at dksX10_findRead_0 8 rfl rfl)
theorem dX10_findRead_9 : decode cX10_findRead 9 = .ok (.if_icmp .ge 25, 3) := dk_162 0 25 (dk_at dksX10_findRead_0 9 rfl rfl)
theorem dX10_findRead_12 : decode cX10_findRead 12 = .ok (.aload_n 0, 1) := dk_42 (dk_at dksX10_findRead_0 12 rfl rfl)
theorem dX10_findRead_13 : decode cX10_findRead 13 = .ok (.getfield 29, 3) := dk_180 0 29 (dk_at dksX10_findRead_0 13 rfl rfl)
theorem dX10_findRead_16 : decode cX10_findRead 16 = .ok (.iload_n 1, 1) := dk_27 (dk_at dksX10_findRead_0 16 rfl rfl)
theorem dX10_findRead_17 : decode cX10_findRead 17 = .ok (.laload, 1) := dk_47 (dk_at dksX10_findRead_0 17 rfl rfl)
theorem dX10_findRead_18 : decode cX10_findRead 18 = .ok (.aload_n 0, 1) := dk_42 (dk_at dksX10_findRead_0 18 rfl rfl)
theorem dX10_findRead_19 : decode cX10_findRead 19 = .ok (.getfield 144, 3) := dk_180 0 144 (dk_at dksX10_findRead_0 19 rfl rfl)
theorem dX10_findRead_22 : decode cX10_findRead 22 = .ok (.lcmp, 1) := dk_148 (dk_at dksX10_findRead_0 22 rfl rfl)
theorem dX10_findRead_23 : decode cX10_findRead 23 = .ok (.ifCond .ne 5, 3) := dk_154 0 5 (dk_at dksX10_findRead_1 0 rfl rfl)
theorem dX10_findRead_26 : decode cX10_findRead 26 = .ok (.iload_n 1, 1) := dk_27 (dk_at dksX10_findRead_1 3 rfl rfl)
theorem dX10_findRead_27 : decode cX10_findRead 27 = .ok (.ireturn, 1) := dk_172 (dk_at dksX10_findRead_1 4 rfl rfl)
theorem dX10_findRead_28 : decode cX10_findRead 28 = .ok (.iinc 1 1, 3) := dk_132 1 1 (dk_at dksX10_findRead_1 5 rfl rfl)
theorem dX10_findRead_31 : decode cX10_findRead 31 = .ok (.goto (-29), 3) := dk_167 255 227 (dk_at dksX10_findRead_1 8 rfl rfl)
theorem dX10_findRead_34 : decode cX10_findRead 34 = .ok (.iconst (-1), 1) := dk_2 (dk_at dksX10_findRead_1 11 rfl rfl)
theorem dX10_findRead_35 : decode cX10_findRead 35 = .ok (.ireturn, 1) := dk_172 (dk_at dksX10_findRead_1 12 rfl rfl)
theorem fl_X10_16 : gFl "BitingDoorsModel" 16 [8] 15 := by
  intro args s hts hN ci hc
  simp only [List.mem_cons, List.not_mem_nil, or_false] at hc
  subst hc
  exact ⟨RX10, TX10, 64, "BitingDoorsModel", gCl_X10, in_X10, by decide, Or.inl (hts _ q1665), fun _ h => h⟩
theorem fl_X10_29 : gFl "BitingDoorsModel" 29 [8] 19 := by
  intro args s hts hN ci hc
  simp only [List.mem_cons, List.not_mem_nil, or_false] at hc
  subst hc
  exact ⟨RX10, TX10, 64, "BitingDoorsModel", gCl_X10, in_X10, by decide, Or.inl (hts _ q1669), fun _ h => h⟩
theorem dn_X10_findRead : yX10_findRead.cls ≠ "java/lang/invoke/MethodHandle" ∧ yX10_findRead.cls ≠ "java/lang/invoke/VarHandle" ∧ (parseMethodDescriptor yX10_findRead.desc).map (fun d => d.parameters.length) = some 0 := by decide +kernel
noncomputable def M_X10_findRead  : TM Int32 := TM.loop (S := Int32) (fun s1 => TM.bind (tA 15 330 2) (fun v4 => if v4 ≤ s1 then TM.pure (Sum.inr (-1)) else TM.bind (tB 19 10 s1) (fun v5 => TM.bind (tL 12) (fun v6 => if (lg_cmp v5 v6) = 0 then TM.pure (Sum.inr s1) else TM.lv (s1 + 1) (fun v7 => TM.pure (Sum.inl v7)))))) 0
set_option maxHeartbeats 4000000 in
theorem ct_X10_findRead (G : gG) (am : Nat)  : gCtM G am yX10_findRead cX10_findRead 2 (some .int) 0 0 [.ref am] (M_X10_findRead) (fun x : Int32 => some (.int x)) := by
  refine gCtM.of (by decide) (Nat.le_of_ble_eq_true rfl) (fun K hn ms ms' r hG X hK hd ho => ?_)
  subst hG
  have X : gX K cX10_findRead 2 "BitingDoorsModel" "findRead" (some .int) 0 0 := X
  show V K 2 (mkM am hn ms) 0 [(0, .ref am)] []
  unfold M_X10_findRead at hd
  refine v_iconst (v := 0) X dX10_findRead_0 (by decide) ?_
  refine v_istore_n (lv2 := [(1, .int 0), (0, .ref am)]) X dX10_findRead_1 1 rfl (by decide) rfl ?_
  refine v_loc [1, 0] rfl ?_
  refine Tloop_ind hd (fun (s1 : Int32) m => V K 2 (mkM am hn m) 2 [(0, .ref am), (1, .int s1)] []) (fun s1 ms x m2 hd ih2 ho3 => ?_)
  refine v_iload_n X dX10_findRead_2 1 1 rfl rfl ?_
  refine v_aload_n X dX10_findRead_3 0 0 rfl rfl ?_
  refine t_getA (j := 2) X rfl fl_X10_16 dX10_findRead_4 ?_
  refine v_iconst (v := 2) X dX10_findRead_7 (by decide) ?_
  refine t_iald (j := 2) X hd rfl dX10_findRead_8 (fun v4 hd => ?_)
  refine v_icmp_ge (tgt := 34) X dX10_findRead_9 (by decide) (fun q => ?_) (fun q => ?_)
  · have hd := Tite_t q hd
    refine v_iconst (v := (-1)) X dX10_findRead_34 (by decide) ?_
    have hd := Tlp_out hd ho3
    exact t_iret X hK hd ho dX10_findRead_35
  · have hd := Tite_f q hd
    refine v_aload_n X dX10_findRead_12 0 0 rfl rfl ?_
    refine t_getA (j := 6) X rfl fl_X10_29 dX10_findRead_13 ?_
    refine v_iload_n X dX10_findRead_16 1 1 rfl rfl ?_
    refine t_lald (j := 6) X hd rfl dX10_findRead_17 (fun v5 hd => ?_)
    refine v_aload_n X dX10_findRead_18 0 0 rfl rfl ?_
    refine t_getL X hd rfl fl_X10_144 dX10_findRead_19 (fun v6 hd => ?_)
    refine v_lcmp X dX10_findRead_22 ?_
    refine v_if_ne (tgt := 28) X dX10_findRead_23 (by decide) (fun q => ?_) (fun q => ?_)
    · have hd := Tite_f q hd
      refine t_iincL (lv2 := fun v7 => [(1, .int v7), (0, .ref am)]) X hd dX10_findRead_28 1 rfl (by decide : Int32.ofInt 1 = 1) (by decide) (fun v7 => rfl) (fun v7 hd => ?_)
      refine v_goto (tgt := 2) X dX10_findRead_31 (by decide) ?_
      exact v_loc [1, 0] rfl (Tlp_in (P := fun (s1 : Int32) m => V K 2 (mkM am hn m) 2 [(0, .ref am), (1, .int s1)] []) hd ih2)
    · have hd := Tite_t q hd
      refine v_iload_n X dX10_findRead_26 1 1 rfl rfl ?_
      have hd := Tlp_out hd ho3
      exact t_iret X hK hd ho dX10_findRead_27
def dkwX10_looksAt_4 : List UInt8 := [21, 8, 104, 96, 21, 7, 96, 46, 158, 0, 6, 6, 54, 5, 132, 6, 1, 167, 255, 150, 21, 5, 172]
abbrev dktX10_looksAt_4 : List UInt8 := dkwX10_looksAt_4 ++ []
def dkwX10_looksAt_3 : List UInt8 := [21, 8, 104, 96, 21, 7, 96, 46, 4, 159, 0, 5, 5, 172, 42, 180, 0, 16, 17, 0, 210, 16, 10]
abbrev dktX10_looksAt_3 : List UInt8 := dkwX10_looksAt_3 ++ dktX10_looksAt_4
def dkwX10_looksAt_2 : List UInt8 := [3, 46, 162, 0, 34, 21, 8, 42, 180, 0, 16, 4, 46, 162, 0, 23, 42, 180, 0, 16, 16, 10, 16, 10]
abbrev dktX10_looksAt_2 : List UInt8 := dkwX10_looksAt_2 ++ dktX10_looksAt_3
def dkwX10_looksAt_1 : List UInt8 := [96, 54, 7, 28, 29, 4, 160, 0, 8, 21, 6, 167, 0, 4, 3, 96, 54, 8, 21, 7, 42, 180, 0, 16]
abbrev dktX10_looksAt_1 : List UInt8 := dkwX10_looksAt_1 ++ dktX10_looksAt_2
def dkwX10_looksAt_0 : List UInt8 := [3, 54, 5, 3, 54, 6, 21, 6, 21, 4, 162, 0, 105, 27, 29, 154, 0, 8, 21, 6, 167, 0, 4, 3]
abbrev dktX10_looksAt_0 : List UInt8 := dkwX10_looksAt_0 ++ dktX10_looksAt_1
theorem dksX10_looksAt_0 : cX10_looksAt.data.toList.drop 0 = dktX10_looksAt_0 := by decide +kernel
theorem dksX10_looksAt_1 : cX10_looksAt.data.toList.drop 24 = dktX10_looksAt_1 := dk_seg dksX10_looksAt_0 24 rfl rfl
theorem dksX10_looksAt_2 : cX10_looksAt.data.toList.drop 48 = dktX10_looksAt_2 := dk_seg dksX10_looksAt_1 24 rfl rfl
theorem dksX10_looksAt_3 : cX10_looksAt.data.toList.drop 72 = dktX10_looksAt_3 := dk_seg dksX10_looksAt_2 24 rfl rfl
theorem dksX10_looksAt_4 : cX10_looksAt.data.toList.drop 95 = dktX10_looksAt_4 := dk_seg dksX10_looksAt_3 23 rfl rfl
theorem dX10_looksAt_0 : decode cX10_looksAt 0 = .ok (.iconst 0, 1) := dk_3 (dk_at dksX10_looksAt_0 0 rfl rfl)
theorem dX10_looksAt_1 : decode cX10_looksAt 1 = .ok (.istore 5, 2) := dk_54 5 (dk_at dksX10_looksAt_0 1 rfl rfl)
theorem dX10_looksAt_3 : decode cX10_looksAt 3 = .ok (.iconst 0, 1) := dk_3 (dk_at dksX10_looksAt_0 3 rfl rfl)
theorem dX10_looksAt_4 : decode cX10_looksAt 4 = .ok (.istore 6, 2) := dk_54 6 (dk_at dksX10_looksAt_0 4 rfl rfl)
theorem dX10_looksAt_6 : decode cX10_looksAt 6 = .ok (.iload 6, 2) := dk_21 6 (dk_at dksX10_looksAt_0 6 rfl rfl)
theorem dX10_looksAt_8 : decode cX10_looksAt 8 = .ok (.iload 4, 2) := dk_21 4 (dk_at dksX10_looksAt_0 8 rfl rfl)
theorem dX10_looksAt_10 : decode cX10_looksAt 10 = .ok (.if_icmp .ge 105, 3) := dk_162 0 105 (dk_at dksX10_looksAt_0 10 rfl rfl)
theorem dX10_looksAt_13 : decode cX10_looksAt 13 = .ok (.iload_n 1, 1) := dk_27 (dk_at dksX10_looksAt_0 13 rfl rfl)
theorem dX10_looksAt_14 : decode cX10_looksAt 14 = .ok (.iload_n 3, 1) := dk_29 (dk_at dksX10_looksAt_0 14 rfl rfl)
theorem dX10_looksAt_15 : decode cX10_looksAt 15 = .ok (.ifCond .ne 8, 3) := dk_154 0 8 (dk_at dksX10_looksAt_0 15 rfl rfl)
theorem dX10_looksAt_18 : decode cX10_looksAt 18 = .ok (.iload 6, 2) := dk_21 6 (dk_at dksX10_looksAt_0 18 rfl rfl)
theorem dX10_looksAt_20 : decode cX10_looksAt 20 = .ok (.goto 4, 3) := dk_167 0 4 (dk_at dksX10_looksAt_0 20 rfl rfl)
theorem dX10_looksAt_23 : decode cX10_looksAt 23 = .ok (.iconst 0, 1) := dk_3 (dk_at dksX10_looksAt_0 23 rfl rfl)
theorem dX10_looksAt_24 : decode cX10_looksAt 24 = .ok (.iadd, 1) := dk_96 (dk_at dksX10_looksAt_1 0 rfl rfl)
theorem dX10_looksAt_25 : decode cX10_looksAt 25 = .ok (.istore 7, 2) := dk_54 7 (dk_at dksX10_looksAt_1 1 rfl rfl)
theorem dX10_looksAt_27 : decode cX10_looksAt 27 = .ok (.iload_n 2, 1) := dk_28 (dk_at dksX10_looksAt_1 3 rfl rfl)
theorem dX10_looksAt_28 : decode cX10_looksAt 28 = .ok (.iload_n 3, 1) := dk_29 (dk_at dksX10_looksAt_1 4 rfl rfl)
theorem dX10_looksAt_29 : decode cX10_looksAt 29 = .ok (.iconst 1, 1) := dk_4 (dk_at dksX10_looksAt_1 5 rfl rfl)
theorem dX10_looksAt_30 : decode cX10_looksAt 30 = .ok (.if_icmp .ne 8, 3) := dk_160 0 8 (dk_at dksX10_looksAt_1 6 rfl rfl)
theorem dX10_looksAt_33 : decode cX10_looksAt 33 = .ok (.iload 6, 2) := dk_21 6 (dk_at dksX10_looksAt_1 9 rfl rfl)
theorem dX10_looksAt_35 : decode cX10_looksAt 35 = .ok (.goto 4, 3) := dk_167 0 4 (dk_at dksX10_looksAt_1 11 rfl rfl)
theorem dX10_looksAt_38 : decode cX10_looksAt 38 = .ok (.iconst 0, 1) := dk_3 (dk_at dksX10_looksAt_1 14 rfl rfl)
theorem dX10_looksAt_39 : decode cX10_looksAt 39 = .ok (.iadd, 1) := dk_96 (dk_at dksX10_looksAt_1 15 rfl rfl)
theorem dX10_looksAt_40 : decode cX10_looksAt 40 = .ok (.istore 8, 2) := dk_54 8 (dk_at dksX10_looksAt_1 16 rfl rfl)
theorem dX10_looksAt_42 : decode cX10_looksAt 42 = .ok (.iload 7, 2) := dk_21 7 (dk_at dksX10_looksAt_1 18 rfl rfl)
theorem dX10_looksAt_44 : decode cX10_looksAt 44 = .ok (.aload_n 0, 1) := dk_42 (dk_at dksX10_looksAt_1 20 rfl rfl)
theorem dX10_looksAt_45 : decode cX10_looksAt 45 = .ok (.getfield 16, 3) := dk_180 0 16 (dk_at dksX10_looksAt_1 21 rfl rfl)
theorem dX10_looksAt_48 : decode cX10_looksAt 48 = .ok (.iconst 0, 1) := dk_3 (dk_at dksX10_looksAt_2 0 rfl rfl)
theorem dX10_looksAt_49 : decode cX10_looksAt 49 = .ok (.iaload, 1) := dk_46 (dk_at dksX10_looksAt_2 1 rfl rfl)
theorem dX10_looksAt_50 : decode cX10_looksAt 50 = .ok (.if_icmp .ge 34, 3) := dk_162 0 34 (dk_at dksX10_looksAt_2 2 rfl rfl)
theorem dX10_looksAt_53 : decode cX10_looksAt 53 = .ok (.iload 8, 2) := dk_21 8 (dk_at dksX10_looksAt_2 5 rfl rfl)
theorem dX10_looksAt_55 : decode cX10_looksAt 55 = .ok (.aload_n 0, 1) := dk_42 (dk_at dksX10_looksAt_2 7 rfl rfl)
theorem dX10_looksAt_56 : decode cX10_looksAt 56 = .ok (.getfield 16, 3) := dk_180 0 16 (dk_at dksX10_looksAt_2 8 rfl rfl)
theorem dX10_looksAt_59 : decode cX10_looksAt 59 = .ok (.iconst 1, 1) := dk_4 (dk_at dksX10_looksAt_2 11 rfl rfl)
theorem dX10_looksAt_60 : decode cX10_looksAt 60 = .ok (.iaload, 1) := dk_46 (dk_at dksX10_looksAt_2 12 rfl rfl)
theorem dX10_looksAt_61 : decode cX10_looksAt 61 = .ok (.if_icmp .ge 23, 3) := dk_162 0 23 (dk_at dksX10_looksAt_2 13 rfl rfl)
theorem dX10_looksAt_64 : decode cX10_looksAt 64 = .ok (.aload_n 0, 1) := dk_42 (dk_at dksX10_looksAt_2 16 rfl rfl)
theorem dX10_looksAt_65 : decode cX10_looksAt 65 = .ok (.getfield 16, 3) := dk_180 0 16 (dk_at dksX10_looksAt_2 17 rfl rfl)
theorem dX10_looksAt_68 : decode cX10_looksAt 68 = .ok (.bipush 10, 2) := dk_16 10 (dk_at dksX10_looksAt_2 20 rfl rfl)
theorem dX10_looksAt_70 : decode cX10_looksAt 70 = .ok (.bipush 10, 2) := dk_16 10 (dk_at dksX10_looksAt_2 22 rfl rfl)
theorem dX10_looksAt_72 : decode cX10_looksAt 72 = .ok (.iload 8, 2) := dk_21 8 (dk_at dksX10_looksAt_3 0 rfl rfl)
theorem dX10_looksAt_74 : decode cX10_looksAt 74 = .ok (.imul, 1) := dk_104 (dk_at dksX10_looksAt_3 2 rfl rfl)
theorem dX10_looksAt_75 : decode cX10_looksAt 75 = .ok (.iadd, 1) := dk_96 (dk_at dksX10_looksAt_3 3 rfl rfl)
theorem dX10_looksAt_76 : decode cX10_looksAt 76 = .ok (.iload 7, 2) := dk_21 7 (dk_at dksX10_looksAt_3 4 rfl rfl)
theorem dX10_looksAt_78 : decode cX10_looksAt 78 = .ok (.iadd, 1) := dk_96 (dk_at dksX10_looksAt_3 6 rfl rfl)
theorem dX10_looksAt_79 : decode cX10_looksAt 79 = .ok (.iaload, 1) := dk_46 (dk_at dksX10_looksAt_3 7 rfl rfl)
theorem dX10_looksAt_80 : decode cX10_looksAt 80 = .ok (.iconst 1, 1) := dk_4 (dk_at dksX10_looksAt_3 8 rfl rfl)
theorem dX10_looksAt_81 : decode cX10_looksAt 81 = .ok (.if_icmp .eq 5, 3) := dk_159 0 5 (dk_at dksX10_looksAt_3 9 rfl rfl)
theorem dX10_looksAt_84 : decode cX10_looksAt 84 = .ok (.iconst 2, 1) := dk_5 (dk_at dksX10_looksAt_3 12 rfl rfl)
theorem dX10_looksAt_85 : decode cX10_looksAt 85 = .ok (.ireturn, 1) := dk_172 (dk_at dksX10_looksAt_3 13 rfl rfl)
theorem dX10_looksAt_86 : decode cX10_looksAt 86 = .ok (.aload_n 0, 1) := dk_42 (dk_at dksX10_looksAt_3 14 rfl rfl)
theorem dX10_looksAt_87 : decode cX10_looksAt 87 = .ok (.getfield 16, 3) := dk_180 0 16 (dk_at dksX10_looksAt_3 15 rfl rfl)
theorem dX10_looksAt_90 : decode cX10_looksAt 90 = .ok (.sipush 210, 3) := dk_17 0 210 (dk_at dksX10_looksAt_3 18 rfl rfl)
theorem dX10_looksAt_93 : decode cX10_looksAt 93 = .ok (.bipush 10, 2) := dk_16 10 (dk_at dksX10_looksAt_3 21 rfl rfl)
theorem dX10_looksAt_95 : decode cX10_looksAt 95 = .ok (.iload 8, 2) := dk_21 8 (dk_at dksX10_looksAt_4 0 rfl rfl)
theorem dX10_looksAt_97 : decode cX10_looksAt 97 = .ok (.imul, 1) := dk_104 (dk_at dksX10_looksAt_4 2 rfl rfl)
theorem dX10_looksAt_98 : decode cX10_looksAt 98 = .ok (.iadd, 1) := dk_96 (dk_at dksX10_looksAt_4 3 rfl rfl)
theorem dX10_looksAt_99 : decode cX10_looksAt 99 = .ok (.iload 7, 2) := dk_21 7 (dk_at dksX10_looksAt_4 4 rfl rfl)
theorem dX10_looksAt_101 : decode cX10_looksAt 101 = .ok (.iadd, 1) := dk_96 (dk_at dksX10_looksAt_4 6 rfl rfl)
theorem dX10_looksAt_102 : decode cX10_looksAt 102 = .ok (.iaload, 1) := dk_46 (dk_at dksX10_looksAt_4 7 rfl rfl)
theorem dX10_looksAt_103 : decode cX10_looksAt 103 = .ok (.ifCond .le 6, 3) := dk_158 0 6 (dk_at dksX10_looksAt_4 8 rfl rfl)
theorem dX10_looksAt_106 : decode cX10_looksAt 106 = .ok (.iconst 3, 1) := dk_6 (dk_at dksX10_looksAt_4 11 rfl rfl)
theorem dX10_looksAt_107 : decode cX10_looksAt 107 = .ok (.istore 5, 2) := dk_54 5 (dk_at dksX10_looksAt_4 12 rfl rfl)
theorem dX10_looksAt_109 : decode cX10_looksAt 109 = .ok (.iinc 6 1, 3) := dk_132 6 1 (dk_at dksX10_looksAt_4 14 rfl rfl)
theorem dX10_looksAt_112 : decode cX10_looksAt 112 = .ok (.goto (-106), 3) := dk_167 255 150 (dk_at dksX10_looksAt_4 17 rfl rfl)
theorem dX10_looksAt_115 : decode cX10_looksAt 115 = .ok (.iload 5, 2) := dk_21 5 (dk_at dksX10_looksAt_4 20 rfl rfl)
theorem dX10_looksAt_117 : decode cX10_looksAt 117 = .ok (.ireturn, 1) := dk_172 (dk_at dksX10_looksAt_4 22 rfl rfl)
theorem dn_X10_looksAt : yX10_looksAt.cls ≠ "java/lang/invoke/MethodHandle" ∧ yX10_looksAt.cls ≠ "java/lang/invoke/VarHandle" ∧ (parseMethodDescriptor yX10_looksAt.desc).map (fun d => d.parameters.length) = some 4 := by decide +kernel
noncomputable def M_X10_looksAt (p1 : Int32) (p2 : Int32) (p3 : Int32) (p4 : Int32) : TM Int32 := TM.loop (S := Int32 × Int32) (fun s1 => if p4 ≤ s1.2 then TM.pure (Sum.inr s1.1) else TM.bind ((if p3 = 0 then TM.pure s1.2 else TM.pure 0 : TM (Int32))) (fun u4 => TM.lv (p1 + u4) (fun v5 => TM.bind ((if p3 = 1 then TM.pure s1.2 else TM.pure 0 : TM (Int32))) (fun u6 => TM.lv (p2 + u6) (fun v7 => TM.bind (tA 15 330 0) (fun v8 => if v8 ≤ v5 then TM.pure (Sum.inr 2) else TM.bind (tA 15 330 1) (fun v9 => if v9 ≤ v7 then TM.pure (Sum.inr 2) else TM.bind (tA 15 330 ((10 + (10 * v7)) + v5)) (fun v10 => if v10 = 1 then TM.bind (tA 15 330 ((210 + (10 * v7)) + v5)) (fun v11 => TM.bind ((if v11 ≤ 0 then TM.pure s1.1 else TM.pure 3 : TM (Int32))) (fun u12 => TM.lv (s1.2 + 1) (fun v13 => TM.pure (Sum.inl (u12, v13))))) else TM.pure (Sum.inr 2))))))))) (0, 0)
set_option maxHeartbeats 4000000 in
theorem ct_X10_looksAt (G : gG) (am : Nat) (p1 : Int32) (p2 : Int32) (p3 : Int32) (p4 : Int32) : gCtM G am yX10_looksAt cX10_looksAt 9 (some .int) 0 0 [.ref am, .int p1, .int p2, .int p3, .int p4] (M_X10_looksAt p1 p2 p3 p4) (fun x : Int32 => some (.int x)) := by
  refine gCtM.of (by decide) (Nat.le_of_ble_eq_true rfl) (fun K hn ms ms' r hG X hK hd ho => ?_)
  subst hG
  have X : gX K cX10_looksAt 9 "BitingDoorsModel" "looksAt" (some .int) 0 0 := X
  show V K 9 (mkM am hn ms) 0 [(0, .ref am), (1, .int p1), (2, .int p2), (3, .int p3), (4, .int p4)] []
  unfold M_X10_looksAt at hd
  refine v_iconst (v := 0) X dX10_looksAt_0 (by decide) ?_
  refine v_istore (lv2 := [(5, .int 0), (0, .ref am), (1, .int p1), (2, .int p2), (3, .int p3), (4, .int p4)]) X dX10_looksAt_1 (by decide) rfl ?_
  refine v_iconst (v := 0) X dX10_looksAt_3 (by decide) ?_
  refine v_istore (lv2 := [(6, .int 0), (5, .int 0), (0, .ref am), (1, .int p1), (2, .int p2), (3, .int p3), (4, .int p4)]) X dX10_looksAt_4 (by decide) rfl ?_
  refine v_loc [2, 3, 4, 5, 6, 1, 0] rfl ?_
  refine Tloop_ind hd (fun (s1 : Int32 × Int32) m => V K 9 (mkM am hn m) 6 [(0, .ref am), (1, .int p1), (2, .int p2), (3, .int p3), (4, .int p4), (5, .int s1.1), (6, .int s1.2)] []) (fun s1 ms x m2 hd ih2 ho3 => ?_)
  refine v_iload X dX10_looksAt_6 6 rfl ?_
  refine v_iload X dX10_looksAt_8 4 rfl ?_
  refine v_icmp_ge (tgt := 115) X dX10_looksAt_10 (by decide) (fun q => ?_) (fun q => ?_)
  · have hd := Tite_t q hd
    refine v_iload X dX10_looksAt_115 5 rfl ?_
    have hd := Tlp_out hd ho3
    exact t_iret X hK hd ho dX10_looksAt_117
  · have hd := Tite_f q hd
    refine v_iload_n X dX10_looksAt_13 1 1 rfl rfl ?_
    refine v_iload_n X dX10_looksAt_14 3 3 rfl rfl ?_
    obtain ⟨u4, m1, hd, hd2⟩ := TM.bind_some hd
    have KJ : V K 9 (mkM am hn m1) 24 [(0, .ref am), (1, .int p1), (2, .int p2), (3, .int p3), (4, .int p4), (5, .int s1.1), (6, .int s1.2)] [.int u4, .int p1] := by
      clear hd
      have hd := hd2
      refine v_iadd X dX10_looksAt_24 ?_
      refine t_lvI hd (fun v5 hd => ?_)
      refine v_istore (lv2 := [(7, .int v5), (0, .ref am), (1, .int p1), (2, .int p2), (3, .int p3), (4, .int p4), (5, .int s1.1), (6, .int s1.2)]) X dX10_looksAt_25 (by decide) rfl ?_
      refine v_iload_n X dX10_looksAt_27 3 2 rfl rfl ?_
      refine v_iload_n X dX10_looksAt_28 4 3 rfl rfl ?_
      refine v_iconst (v := 1) X dX10_looksAt_29 (by decide) ?_
      obtain ⟨u6, m1, hd, hd2⟩ := TM.bind_some hd
      have KJ : V K 9 (mkM am hn m1) 39 [(0, .ref am), (1, .int p1), (2, .int p2), (3, .int p3), (4, .int p4), (5, .int s1.1), (6, .int s1.2), (7, .int v5)] [.int u6, .int p2] := by
        clear hd
        have hd := hd2
        refine v_iadd X dX10_looksAt_39 ?_
        refine t_lvI hd (fun v7 hd => ?_)
        refine v_istore (lv2 := [(8, .int v7), (0, .ref am), (1, .int p1), (2, .int p2), (3, .int p3), (4, .int p4), (5, .int s1.1), (6, .int s1.2), (7, .int v5)]) X dX10_looksAt_40 (by decide) rfl ?_
        refine v_iload X dX10_looksAt_42 8 rfl ?_
        refine v_aload_n X dX10_looksAt_44 1 0 rfl rfl ?_
        refine t_getA (j := 2) X rfl fl_X10_16 dX10_looksAt_45 ?_
        refine v_iconst (v := 0) X dX10_looksAt_48 (by decide) ?_
        refine t_iald (j := 2) X hd rfl dX10_looksAt_49 (fun v8 hd => ?_)
        refine v_icmp_ge (tgt := 84) X dX10_looksAt_50 (by decide) (fun q => ?_) (fun q => ?_)
        · have hd := Tite_t q hd
          refine v_iconst (v := 2) X dX10_looksAt_84 (by decide) ?_
          have hd := Tlp_out hd ho3
          exact t_iret X hK hd ho dX10_looksAt_85
        · have hd := Tite_f q hd
          refine v_iload X dX10_looksAt_53 0 rfl ?_
          refine v_aload_n X dX10_looksAt_55 1 0 rfl rfl ?_
          refine t_getA (j := 2) X rfl fl_X10_16 dX10_looksAt_56 ?_
          refine v_iconst (v := 1) X dX10_looksAt_59 (by decide) ?_
          refine t_iald (j := 2) X hd rfl dX10_looksAt_60 (fun v9 hd => ?_)
          refine v_icmp_ge (tgt := 84) X dX10_looksAt_61 (by decide) (fun q => ?_) (fun q => ?_)
          · have hd := Tite_t q hd
            refine v_iconst (v := 2) X dX10_looksAt_84 (by decide) ?_
            have hd := Tlp_out hd ho3
            exact t_iret X hK hd ho dX10_looksAt_85
          · have hd := Tite_f q hd
            refine v_aload_n X dX10_looksAt_64 1 0 rfl rfl ?_
            refine t_getA (j := 2) X rfl fl_X10_16 dX10_looksAt_65 ?_
            refine v_bipush (v := 10) X dX10_looksAt_68 (by decide) ?_
            refine v_bipush (v := 10) X dX10_looksAt_70 (by decide) ?_
            refine v_iload X dX10_looksAt_72 0 rfl ?_
            refine v_imul X dX10_looksAt_74 ?_
            refine v_iadd X dX10_looksAt_75 ?_
            refine v_iload X dX10_looksAt_76 8 rfl ?_
            refine v_iadd X dX10_looksAt_78 ?_
            refine t_iald (j := 2) X hd rfl dX10_looksAt_79 (fun v10 hd => ?_)
            refine v_iconst (v := 1) X dX10_looksAt_80 (by decide) ?_
            refine v_icmp_eq (tgt := 86) X dX10_looksAt_81 (by decide) (fun q => ?_) (fun q => ?_)
            · have hd := Tite_t q hd
              refine v_aload_n X dX10_looksAt_86 1 0 rfl rfl ?_
              refine t_getA (j := 2) X rfl fl_X10_16 dX10_looksAt_87 ?_
              refine v_sipush (v := 210) X dX10_looksAt_90 (by decide) ?_
              refine v_bipush (v := 10) X dX10_looksAt_93 (by decide) ?_
              refine v_iload X dX10_looksAt_95 0 rfl ?_
              refine v_imul X dX10_looksAt_97 ?_
              refine v_iadd X dX10_looksAt_98 ?_
              refine v_iload X dX10_looksAt_99 8 rfl ?_
              refine v_iadd X dX10_looksAt_101 ?_
              refine t_iald (j := 2) X hd rfl dX10_looksAt_102 (fun v11 hd => ?_)
              obtain ⟨u12, m1, hd, hd2⟩ := TM.bind_some hd
              have KJ : V K 9 (mkM am hn m1) 109 [(0, .ref am), (1, .int p1), (2, .int p2), (3, .int p3), (4, .int p4), (5, .int u12), (6, .int s1.2)] [] := by
                clear hd
                have hd := hd2
                refine t_iincL (lv2 := fun v13 => [(6, .int v13), (0, .ref am), (1, .int p1), (2, .int p2), (3, .int p3), (4, .int p4), (5, .int u12)]) X hd dX10_looksAt_109 6 rfl (by decide : Int32.ofInt 1 = 1) (by decide) (fun v13 => rfl) (fun v13 hd => ?_)
                refine v_goto (tgt := 6) X dX10_looksAt_112 (by decide) ?_
                exact v_loc [1, 2, 3, 4, 5, 6, 0] rfl (Tlp_in (P := fun (s1 : Int32 × Int32) m => V K 9 (mkM am hn m) 6 [(0, .ref am), (1, .int p1), (2, .int p2), (3, .int p3), (4, .int p4), (5, .int s1.1), (6, .int s1.2)] []) hd ih2)
              clear hd2
              refine v_if_le (tgt := 109) X dX10_looksAt_103 (by decide) (fun q => ?_) (fun q => ?_)
              · have hd := Tite_t q hd
                exact v_loc [1, 2, 3, 4, 5, 6, 7] rfl (t_at (P := fun (u12 : Int32) m => V K 9 (mkM am hn m) 109 [(0, .ref am), (1, .int p1), (2, .int p2), (3, .int p3), (4, .int p4), (5, .int u12), (6, .int s1.2)] []) hd KJ)
              · have hd := Tite_f q hd
                refine v_iconst (v := 3) X dX10_looksAt_106 (by decide) ?_
                refine v_istore (lv2 := [(5, .int 3), (8, .int v7), (0, .ref am), (1, .int p1), (2, .int p2), (3, .int p3), (4, .int p4), (6, .int s1.2), (7, .int v5)]) X dX10_looksAt_107 (by decide) rfl ?_
                exact v_loc [2, 3, 4, 5, 6, 0, 7] rfl (t_at (P := fun (u12 : Int32) m => V K 9 (mkM am hn m) 109 [(0, .ref am), (1, .int p1), (2, .int p2), (3, .int p3), (4, .int p4), (5, .int u12), (6, .int s1.2)] []) hd KJ)
            · have hd := Tite_f q hd
              refine v_iconst (v := 2) X dX10_looksAt_84 (by decide) ?_
              have hd := Tlp_out hd ho3
              exact t_iret X hK hd ho dX10_looksAt_85
      clear hd2
      refine v_icmp_ne (tgt := 38) X dX10_looksAt_30 (by decide) (fun q => ?_) (fun q => ?_)
      · have hd := Tite_f q hd
        refine v_iconst (v := 0) X dX10_looksAt_38 (by decide) ?_
        exact v_loc [1, 2, 3, 4, 5, 6, 7, 0] rfl (t_at (P := fun (u6 : Int32) m => V K 9 (mkM am hn m) 39 [(0, .ref am), (1, .int p1), (2, .int p2), (3, .int p3), (4, .int p4), (5, .int s1.1), (6, .int s1.2), (7, .int v5)] [.int u6, .int p2]) hd KJ)
      · have hd := Tite_t q hd
        refine v_iload X dX10_looksAt_33 7 rfl ?_
        refine v_goto (tgt := 39) X dX10_looksAt_35 (by decide) ?_
        exact v_loc [1, 2, 3, 4, 5, 6, 7, 0] rfl (t_at (P := fun (u6 : Int32) m => V K 9 (mkM am hn m) 39 [(0, .ref am), (1, .int p1), (2, .int p2), (3, .int p3), (4, .int p4), (5, .int s1.1), (6, .int s1.2), (7, .int v5)] [.int u6, .int p2]) hd KJ)
    clear hd2
    refine v_if_ne (tgt := 23) X dX10_looksAt_15 (by decide) (fun q => ?_) (fun q => ?_)
    · have hd := Tite_f q hd
      refine v_iconst (v := 0) X dX10_looksAt_23 (by decide) ?_
      exact v_loc [0, 1, 2, 3, 4, 5, 6] rfl (t_at (P := fun (u4 : Int32) m => V K 9 (mkM am hn m) 24 [(0, .ref am), (1, .int p1), (2, .int p2), (3, .int p3), (4, .int p4), (5, .int s1.1), (6, .int s1.2)] [.int u4, .int p1]) hd KJ)
    · have hd := Tite_t q hd
      refine v_iload X dX10_looksAt_18 6 rfl ?_
      refine v_goto (tgt := 24) X dX10_looksAt_20 (by decide) ?_
      exact v_loc [0, 1, 2, 3, 4, 5, 6] rfl (t_at (P := fun (u4 : Int32) m => V K 9 (mkM am hn m) 24 [(0, .ref am), (1, .int p1), (2, .int p2), (3, .int p3), (4, .int p4), (5, .int s1.1), (6, .int s1.2)] [.int u4, .int p1]) hd KJ)
def dkwX10_readDoor_25 : List UInt8 := [4, 96, 79, 4, 172]
abbrev dktX10_readDoor_25 : List UInt8 := dkwX10_readDoor_25 ++ []
def dkwX10_readDoor_24 : List UInt8 := [21, 6, 104, 96, 21, 5, 96, 27, 4, 96, 79, 132, 4, 1, 167, 255, 163, 42, 180, 0, 16, 5, 92, 46]
abbrev dktX10_readDoor_24 : List UInt8 := dkwX10_readDoor_24 ++ dktX10_readDoor_25
def dkwX10_readDoor_23 : List UInt8 := [46, 4, 160, 0, 8, 21, 4, 167, 0, 4, 3, 96, 54, 6, 42, 180, 0, 16, 17, 0, 210, 16, 10]
abbrev dktX10_readDoor_23 : List UInt8 := dkwX10_readDoor_23 ++ dktX10_readDoor_24
def dkwX10_readDoor_22 : List UInt8 := [21, 4, 167, 0, 4, 3, 96, 54, 5, 42, 180, 0, 16, 28, 4, 96, 46, 42, 180, 0, 16, 28, 5, 96]
abbrev dktX10_readDoor_22 : List UInt8 := dkwX10_readDoor_22 ++ dktX10_readDoor_23
def dkwX10_readDoor_21 : List UInt8 := [46, 162, 0, 86, 42, 180, 0, 16, 28, 3, 96, 46, 42, 180, 0, 16, 28, 5, 96, 46, 154, 0, 8]
abbrev dktX10_readDoor_21 : List UInt8 := dkwX10_readDoor_21 ++ dktX10_readDoor_22
def dkwX10_readDoor_20 : List UInt8 := [16, 8, 182, 0, 224, 153, 0, 7, 42, 182, 0, 194, 3, 54, 4, 21, 4, 42, 180, 0, 16, 28, 6, 96]
abbrev dktX10_readDoor_20 : List UInt8 := dkwX10_readDoor_20 ++ dktX10_readDoor_21
def dkwX10_readDoor_19 : List UInt8 := [180, 0, 16, 28, 16, 7, 96, 42, 16, 8, 182, 0, 224, 153, 0, 7, 4, 167, 0, 4, 3, 79, 42]
abbrev dktX10_readDoor_19 : List UInt8 := dkwX10_readDoor_19 ++ dktX10_readDoor_20
def dkwX10_readDoor_18 : List UInt8 := [182, 0, 220, 154, 0, 5, 3, 172, 42, 180, 0, 16, 28, 16, 6, 96, 42, 180, 0, 191, 79, 42]
abbrev dktX10_readDoor_18 : List UInt8 := dkwX10_readDoor_18 ++ dktX10_readDoor_19
def dkwX10_readDoor_17 : List UInt8 := [16, 6, 96, 4, 79, 42, 16, 7, 182, 0, 224, 153, 0, 32, 42, 182, 0, 194, 42, 4, 16, 99]
abbrev dktX10_readDoor_17 : List UInt8 := dkwX10_readDoor_17 ++ dktX10_readDoor_18
def dkwX10_readDoor_16 : List UInt8 := [96, 92, 46, 4, 42, 180, 0, 148, 120, 128, 79, 42, 182, 0, 194, 167, 255, 170, 42, 180, 0, 16, 28]
abbrev dktX10_readDoor_16 : List UInt8 := dkwX10_readDoor_16 ++ dktX10_readDoor_17
def dkwX10_readDoor_15 : List UInt8 := [96, 46, 42, 180, 0, 148, 184, 0, 231, 153, 0, 9, 42, 6, 182, 0, 184, 172, 42, 180, 0, 16, 28, 8]
abbrev dktX10_readDoor_15 : List UInt8 := dkwX10_readDoor_15 ++ dktX10_readDoor_16
def dkwX10_readDoor_14 : List UInt8 := [182, 0, 184, 172, 42, 180, 0, 148, 6, 164, 0, 9, 42, 5, 182, 0, 184, 172, 42, 180, 0, 16, 28, 8]
abbrev dktX10_readDoor_14 : List UInt8 := dkwX10_readDoor_14 ++ dktX10_readDoor_15
def dkwX10_readDoor_13 : List UInt8 := [16, 6, 182, 0, 224, 153, 0, 83, 42, 182, 0, 194, 42, 180, 0, 131, 6, 159, 0, 9, 42, 4]
abbrev dktX10_readDoor_13 : List UInt8 := dkwX10_readDoor_13 ++ dktX10_readDoor_14
def dkwX10_readDoor_12 : List UInt8 := [28, 7, 96, 42, 180, 0, 191, 79, 42, 180, 0, 16, 28, 8, 96, 4, 42, 180, 0, 191, 120, 79, 42]
abbrev dktX10_readDoor_12 : List UInt8 := dkwX10_readDoor_12 ++ dktX10_readDoor_13
def dkwX10_readDoor_11 : List UInt8 := [42, 180, 0, 148, 79, 42, 182, 0, 194, 42, 3, 6, 182, 0, 220, 154, 0, 5, 3, 172, 42, 180, 0, 16]
abbrev dktX10_readDoor_11 : List UInt8 := dkwX10_readDoor_11 ++ dktX10_readDoor_12
def dkwX10_readDoor_10 : List UInt8 := [180, 0, 148, 182, 0, 227, 62, 29, 158, 0, 9, 42, 29, 182, 0, 184, 172, 42, 180, 0, 16, 28, 6, 96]
abbrev dktX10_readDoor_10 : List UInt8 := dkwX10_readDoor_10 ++ dktX10_readDoor_11
def dkwX10_readDoor_9 : List UInt8 := [180, 0, 16, 28, 3, 96, 46, 42, 180, 0, 16, 28, 4, 96, 46, 42, 180, 0, 16, 28, 5, 96, 46, 42]
abbrev dktX10_readDoor_9 : List UInt8 := dkwX10_readDoor_9 ++ dktX10_readDoor_10
def dkwX10_readDoor_8 : List UInt8 := [182, 0, 184, 172, 42, 180, 0, 148, 4, 6, 184, 0, 187, 154, 0, 9, 42, 5, 182, 0, 184, 172, 42, 42]
abbrev dktX10_readDoor_8 : List UInt8 := dkwX10_readDoor_8 ++ dktX10_readDoor_9
def dkwX10_readDoor_7 : List UInt8 := [153, 0, 7, 4, 167, 0, 4, 3, 79, 42, 182, 0, 194, 42, 180, 0, 131, 6, 159, 0, 9, 42, 4]
abbrev dktX10_readDoor_7 : List UInt8 := dkwX10_readDoor_7 ++ dktX10_readDoor_8
def dkwX10_readDoor_6 : List UInt8 := [182, 0, 224, 154, 0, 9, 42, 4, 182, 0, 184, 172, 42, 180, 0, 16, 28, 5, 96, 42, 8, 182, 0, 224]
abbrev dktX10_readDoor_6 : List UInt8 := dkwX10_readDoor_6 ++ dktX10_readDoor_7
def dkwX10_readDoor_5 : List UInt8 := [42, 180, 0, 16, 28, 4, 96, 42, 180, 0, 191, 79, 42, 7, 182, 0, 224, 154, 0, 17, 42, 8]
abbrev dktX10_readDoor_5 : List UInt8 := dkwX10_readDoor_5 ++ dktX10_readDoor_6
def dkwX10_readDoor_4 : List UInt8 := [96, 42, 180, 0, 191, 79, 42, 3, 42, 180, 0, 16, 4, 46, 4, 100, 182, 0, 220, 154, 0, 5, 3, 172]
abbrev dktX10_readDoor_4 : List UInt8 := dkwX10_readDoor_4 ++ dktX10_readDoor_5
def dkwX10_readDoor_3 : List UInt8 := [42, 3, 42, 180, 0, 16, 3, 46, 4, 100, 182, 0, 220, 154, 0, 5, 3, 172, 42, 180, 0, 16, 28, 3]
abbrev dktX10_readDoor_3 : List UInt8 := dkwX10_readDoor_3 ++ dktX10_readDoor_4
def dkwX10_readDoor_2 : List UInt8 := [2, 159, 0, 9, 42, 6, 182, 0, 184, 172, 42, 180, 0, 29, 27, 42, 180, 0, 144, 80, 42, 182, 0, 194]
abbrev dktX10_readDoor_2 : List UInt8 := dkwX10_readDoor_2 ++ dktX10_readDoor_3
def dkwX10_readDoor_1 : List UInt8 := [104, 96, 61, 42, 182, 0, 194, 42, 182, 0, 214, 154, 0, 9, 42, 4, 182, 0, 184, 172, 42, 182, 0, 217]
abbrev dktX10_readDoor_1 : List UInt8 := dkwX10_readDoor_1 ++ dktX10_readDoor_2
def dkwX10_readDoor_0 : List UInt8 := [42, 180, 0, 16, 5, 46, 60, 27, 16, 10, 160, 0, 9, 42, 7, 182, 0, 184, 172, 16, 110, 16, 10, 27]
abbrev dktX10_readDoor_0 : List UInt8 := dkwX10_readDoor_0 ++ dktX10_readDoor_1
theorem dksX10_readDoor_0 : cX10_readDoor.data.toList.drop 0 = dktX10_readDoor_0 := by decide +kernel
theorem dksX10_readDoor_1 : cX10_readDoor.data.toList.drop 24 = dktX10_readDoor_1 := dk_seg dksX10_readDoor_0 24 rfl rfl
theorem dksX10_readDoor_2 : cX10_readDoor.data.toList.drop 48 = dktX10_readDoor_2 := dk_seg dksX10_readDoor_1 24 rfl rfl
theorem dksX10_readDoor_3 : cX10_readDoor.data.toList.drop 72 = dktX10_readDoor_3 := dk_seg dksX10_readDoor_2 24 rfl rfl
theorem dksX10_readDoor_4 : cX10_readDoor.data.toList.drop 96 = dktX10_readDoor_4 := dk_seg dksX10_readDoor_3 24 rfl rfl
theorem dksX10_readDoor_5 : cX10_readDoor.data.toList.drop 120 = dktX10_readDoor_5 := dk_seg dksX10_readDoor_4 24 rfl rfl
theorem dksX10_readDoor_6 : cX10_readDoor.data.toList.drop 142 = dktX10_readDoor_6 := dk_seg dksX10_readDoor_5 22 rfl rfl
theorem dksX10_readDoor_7 : cX10_readDoor.data.toList.drop 166 = dktX10_readDoor_7 := dk_seg dksX10_readDoor_6 24 rfl rfl
theorem dksX10_readDoor_8 : cX10_readDoor.data.toList.drop 189 = dktX10_readDoor_8 := dk_seg dksX10_readDoor_7 23 rfl rfl
theorem dksX10_readDoor_9 : cX10_readDoor.data.toList.drop 213 = dktX10_readDoor_9 := dk_seg dksX10_readDoor_8 24 rfl rfl
theorem dksX10_readDoor_10 : cX10_readDoor.data.toList.drop 237 = dktX10_readDoor_10 := dk_seg dksX10_readDoor_9 24 rfl rfl
theorem dksX10_readDoor_11 : cX10_readDoor.data.toList.drop 261 = dktX10_readDoor_11 := dk_seg dksX10_readDoor_10 24 rfl rfl
theorem dksX10_readDoor_12 : cX10_readDoor.data.toList.drop 285 = dktX10_readDoor_12 := dk_seg dksX10_readDoor_11 24 rfl rfl
theorem dksX10_readDoor_13 : cX10_readDoor.data.toList.drop 308 = dktX10_readDoor_13 := dk_seg dksX10_readDoor_12 23 rfl rfl
theorem dksX10_readDoor_14 : cX10_readDoor.data.toList.drop 330 = dktX10_readDoor_14 := dk_seg dksX10_readDoor_13 22 rfl rfl
theorem dksX10_readDoor_15 : cX10_readDoor.data.toList.drop 354 = dktX10_readDoor_15 := dk_seg dksX10_readDoor_14 24 rfl rfl
theorem dksX10_readDoor_16 : cX10_readDoor.data.toList.drop 378 = dktX10_readDoor_16 := dk_seg dksX10_readDoor_15 24 rfl rfl
theorem dksX10_readDoor_17 : cX10_readDoor.data.toList.drop 401 = dktX10_readDoor_17 := dk_seg dksX10_readDoor_16 23 rfl rfl
theorem dksX10_readDoor_18 : cX10_readDoor.data.toList.drop 423 = dktX10_readDoor_18 := dk_seg dksX10_readDoor_17 22 rfl rfl
theorem dksX10_readDoor_19 : cX10_readDoor.data.toList.drop 445 = dktX10_readDoor_19 := dk_seg dksX10_readDoor_18 22 rfl rfl
theorem dksX10_readDoor_20 : cX10_readDoor.data.toList.drop 468 = dktX10_readDoor_20 := dk_seg dksX10_readDoor_19 23 rfl rfl
theorem dksX10_readDoor_21 : cX10_readDoor.data.toList.drop 492 = dktX10_readDoor_21 := dk_seg dksX10_readDoor_20 24 rfl rfl
theorem dksX10_readDoor_22 : cX10_readDoor.data.toList.drop 515 = dktX10_readDoor_22 := dk_seg dksX10_readDoor_21 23 rfl rfl
theorem dksX10_readDoor_23 : cX10_readDoor.data.toList.drop 539 = dktX10_readDoor_23 := dk_seg dksX10_readDoor_22 24 rfl rfl
theorem dksX10_readDoor_24 : cX10_readDoor.data.toList.drop 562 = dktX10_readDoor_24 := dk_seg dksX10_readDoor_23 23 rfl rfl
theorem dksX10_readDoor_25 : cX10_readDoor.data.toList.drop 586 = dktX10_readDoor_25 := dk_seg dksX10_readDoor_24 24 rfl rfl
theorem dX10_readDoor_0 : decode cX10_readDoor 0 = .ok (.aload_n 0, 1) := dk_42 (dk_at dksX10_readDoor_0 0 rfl rfl)
theorem dX10_readDoor_1 : decode cX10_readDoor 1 = .ok (.getfield 16, 3) := dk_180 0 16 (dk_at dksX10_readDoor_0 1 rfl rfl)
theorem dX10_readDoor_4 : decode cX10_readDoor 4 = .ok (.iconst 2, 1) := dk_5 (dk_at dksX10_readDoor_0 4 rfl rfl)
theorem dX10_readDoor_5 : decode cX10_readDoor 5 = .ok (.iaload, 1) := dk_46 (dk_at dksX10_readDoor_0 5 rfl rfl)
theorem dX10_readDoor_6 : decode cX10_readDoor 6 = .ok (.istore_n 1, 1) := dk_60 (dk_at dksX10_readDoor_0 6 rfl rfl)
theorem dX10_readDoor_7 : decode cX10_readDoor 7 = .ok (.iload_n 1, 1) := dk_27 (dk_at dksX10_readDoor_0 7 rfl rfl)
theorem dX10_readDoor_8 : decode cX10_readDoor 8 = .ok (.bipush 10, 2) := dk_16 10 (dk_at dksX10_readDoor_0 8 rfl rfl)
theorem dX10_readDoor_10 : decode cX10_readDoor 10 = .ok (.if_icmp .ne 9, 3) := dk_160 0 9 (dk_at dksX10_readDoor_0 10 rfl rfl)
theorem dX10_readDoor_13 : decode cX10_readDoor 13 = .ok (.aload_n 0, 1) := dk_42 (dk_at dksX10_readDoor_0 13 rfl rfl)
theorem dX10_readDoor_14 : decode cX10_readDoor 14 = .ok (.iconst 4, 1) := dk_7 (dk_at dksX10_readDoor_0 14 rfl rfl)
theorem dX10_readDoor_15 : decode cX10_readDoor 15 = .ok (.invokevirtual 184, 3) := dk_182 0 184 (dk_at dksX10_readDoor_0 15 rfl rfl)
theorem dX10_readDoor_18 : decode cX10_readDoor 18 = .ok (.ireturn, 1) := dk_172 (dk_at dksX10_readDoor_0 18 rfl rfl)
theorem dX10_readDoor_19 : decode cX10_readDoor 19 = .ok (.bipush 110, 2) := dk_16 110 (dk_at dksX10_readDoor_0 19 rfl rfl)
theorem dX10_readDoor_21 : decode cX10_readDoor 21 = .ok (.bipush 10, 2) := dk_16 10 (dk_at dksX10_readDoor_0 21 rfl rfl)
theorem dX10_readDoor_23 : decode cX10_readDoor 23 = .ok (.iload_n 1, 1) := dk_27 (dk_at dksX10_readDoor_0 23 rfl rfl)
theorem dX10_readDoor_24 : decode cX10_readDoor 24 = .ok (.imul, 1) := dk_104 (dk_at dksX10_readDoor_1 0 rfl rfl)
theorem dX10_readDoor_25 : decode cX10_readDoor 25 = .ok (.iadd, 1) := dk_96 (dk_at dksX10_readDoor_1 1 rfl rfl)
theorem dX10_readDoor_26 : decode cX10_readDoor 26 = .ok (.istore_n 2, 1) := dk_61 (dk_at dksX10_readDoor_1 2 rfl rfl)
theorem dX10_readDoor_27 : decode cX10_readDoor 27 = .ok (.aload_n 0, 1) := dk_42 (dk_at dksX10_readDoor_1 3 rfl rfl)
theorem dX10_readDoor_28 : decode cX10_readDoor 28 = .ok (.invokevirtual 194, 3) := dk_182 0 194 (dk_at dksX10_readDoor_1 4 rfl rfl)
theorem dX10_readDoor_31 : decode cX10_readDoor 31 = .ok (.aload_n 0, 1) := dk_42 (dk_at dksX10_readDoor_1 7 rfl rfl)
theorem dX10_readDoor_32 : decode cX10_readDoor 32 = .ok (.invokevirtual 214, 3) := dk_182 0 214 (dk_at dksX10_readDoor_1 8 rfl rfl)
theorem dX10_readDoor_35 : decode cX10_readDoor 35 = .ok (.ifCond .ne 9, 3) := dk_154 0 9 (dk_at dksX10_readDoor_1 11 rfl rfl)
theorem dX10_readDoor_38 : decode cX10_readDoor 38 = .ok (.aload_n 0, 1) := dk_42 (dk_at dksX10_readDoor_1 14 rfl rfl)
theorem dX10_readDoor_39 : decode cX10_readDoor 39 = .ok (.iconst 1, 1) := dk_4 (dk_at dksX10_readDoor_1 15 rfl rfl)
theorem dX10_readDoor_40 : decode cX10_readDoor 40 = .ok (.invokevirtual 184, 3) := dk_182 0 184 (dk_at dksX10_readDoor_1 16 rfl rfl)
theorem dX10_readDoor_43 : decode cX10_readDoor 43 = .ok (.ireturn, 1) := dk_172 (dk_at dksX10_readDoor_1 19 rfl rfl)
theorem dX10_readDoor_44 : decode cX10_readDoor 44 = .ok (.aload_n 0, 1) := dk_42 (dk_at dksX10_readDoor_1 20 rfl rfl)
theorem dX10_readDoor_45 : decode cX10_readDoor 45 = .ok (.invokevirtual 217, 3) := dk_182 0 217 (dk_at dksX10_readDoor_1 21 rfl rfl)
theorem dX10_readDoor_48 : decode cX10_readDoor 48 = .ok (.iconst (-1), 1) := dk_2 (dk_at dksX10_readDoor_2 0 rfl rfl)
theorem dX10_readDoor_49 : decode cX10_readDoor 49 = .ok (.if_icmp .eq 9, 3) := dk_159 0 9 (dk_at dksX10_readDoor_2 1 rfl rfl)
theorem dX10_readDoor_52 : decode cX10_readDoor 52 = .ok (.aload_n 0, 1) := dk_42 (dk_at dksX10_readDoor_2 4 rfl rfl)
theorem dX10_readDoor_53 : decode cX10_readDoor 53 = .ok (.iconst 3, 1) := dk_6 (dk_at dksX10_readDoor_2 5 rfl rfl)
theorem dX10_readDoor_54 : decode cX10_readDoor 54 = .ok (.invokevirtual 184, 3) := dk_182 0 184 (dk_at dksX10_readDoor_2 6 rfl rfl)
theorem dX10_readDoor_57 : decode cX10_readDoor 57 = .ok (.ireturn, 1) := dk_172 (dk_at dksX10_readDoor_2 9 rfl rfl)
theorem dX10_readDoor_58 : decode cX10_readDoor 58 = .ok (.aload_n 0, 1) := dk_42 (dk_at dksX10_readDoor_2 10 rfl rfl)
theorem dX10_readDoor_59 : decode cX10_readDoor 59 = .ok (.getfield 29, 3) := dk_180 0 29 (dk_at dksX10_readDoor_2 11 rfl rfl)
theorem dX10_readDoor_62 : decode cX10_readDoor 62 = .ok (.iload_n 1, 1) := dk_27 (dk_at dksX10_readDoor_2 14 rfl rfl)
theorem dX10_readDoor_63 : decode cX10_readDoor 63 = .ok (.aload_n 0, 1) := dk_42 (dk_at dksX10_readDoor_2 15 rfl rfl)
theorem dX10_readDoor_64 : decode cX10_readDoor 64 = .ok (.getfield 144, 3) := dk_180 0 144 (dk_at dksX10_readDoor_2 16 rfl rfl)
theorem dX10_readDoor_67 : decode cX10_readDoor 67 = .ok (.lastore, 1) := dk_80 (dk_at dksX10_readDoor_2 19 rfl rfl)
theorem dX10_readDoor_68 : decode cX10_readDoor 68 = .ok (.aload_n 0, 1) := dk_42 (dk_at dksX10_readDoor_2 20 rfl rfl)
theorem dX10_readDoor_69 : decode cX10_readDoor 69 = .ok (.invokevirtual 194, 3) := dk_182 0 194 (dk_at dksX10_readDoor_2 21 rfl rfl)
theorem dX10_readDoor_72 : decode cX10_readDoor 72 = .ok (.aload_n 0, 1) := dk_42 (dk_at dksX10_readDoor_3 0 rfl rfl)
theorem dX10_readDoor_73 : decode cX10_readDoor 73 = .ok (.iconst 0, 1) := dk_3 (dk_at dksX10_readDoor_3 1 rfl rfl)
theorem dX10_readDoor_74 : decode cX10_readDoor 74 = .ok (.aload_n 0, 1) := dk_42 (dk_at dksX10_readDoor_3 2 rfl rfl)
theorem dX10_readDoor_75 : decode cX10_readDoor 75 = .ok (.getfield 16, 3) := dk_180 0 16 (dk_at dksX10_readDoor_3 3 rfl rfl)
theorem dX10_readDoor_78 : decode cX10_readDoor 78 = .ok (.iconst 0, 1) := dk_3 (dk_at dksX10_readDoor_3 6 rfl rfl)
theorem dX10_readDoor_79 : decode cX10_readDoor 79 = .ok (.iaload, 1) := dk_46 (dk_at dksX10_readDoor_3 7 rfl rfl)
theorem dX10_readDoor_80 : decode cX10_readDoor 80 = .ok (.iconst 1, 1) := dk_4 (dk_at dksX10_readDoor_3 8 rfl rfl)
theorem dX10_readDoor_81 : decode cX10_readDoor 81 = .ok (.isub, 1) := dk_100 (dk_at dksX10_readDoor_3 9 rfl rfl)
theorem dX10_readDoor_82 : decode cX10_readDoor 82 = .ok (.invokevirtual 220, 3) := dk_182 0 220 (dk_at dksX10_readDoor_3 10 rfl rfl)
theorem dX10_readDoor_85 : decode cX10_readDoor 85 = .ok (.ifCond .ne 5, 3) := dk_154 0 5 (dk_at dksX10_readDoor_3 13 rfl rfl)
theorem dX10_readDoor_88 : decode cX10_readDoor 88 = .ok (.iconst 0, 1) := dk_3 (dk_at dksX10_readDoor_3 16 rfl rfl)
theorem dX10_readDoor_89 : decode cX10_readDoor 89 = .ok (.ireturn, 1) := dk_172 (dk_at dksX10_readDoor_3 17 rfl rfl)
theorem dX10_readDoor_90 : decode cX10_readDoor 90 = .ok (.aload_n 0, 1) := dk_42 (dk_at dksX10_readDoor_3 18 rfl rfl)
theorem dX10_readDoor_91 : decode cX10_readDoor 91 = .ok (.getfield 16, 3) := dk_180 0 16 (dk_at dksX10_readDoor_3 19 rfl rfl)
theorem dX10_readDoor_94 : decode cX10_readDoor 94 = .ok (.iload_n 2, 1) := dk_28 (dk_at dksX10_readDoor_3 22 rfl rfl)
theorem dX10_readDoor_95 : decode cX10_readDoor 95 = .ok (.iconst 0, 1) := dk_3 (dk_at dksX10_readDoor_3 23 rfl rfl)
theorem dX10_readDoor_96 : decode cX10_readDoor 96 = .ok (.iadd, 1) := dk_96 (dk_at dksX10_readDoor_4 0 rfl rfl)
theorem dX10_readDoor_97 : decode cX10_readDoor 97 = .ok (.aload_n 0, 1) := dk_42 (dk_at dksX10_readDoor_4 1 rfl rfl)
theorem dX10_readDoor_98 : decode cX10_readDoor 98 = .ok (.getfield 191, 3) := dk_180 0 191 (dk_at dksX10_readDoor_4 2 rfl rfl)
theorem dX10_readDoor_101 : decode cX10_readDoor 101 = .ok (.iastore, 1) := dk_79 (dk_at dksX10_readDoor_4 5 rfl rfl)
theorem dX10_readDoor_102 : decode cX10_readDoor 102 = .ok (.aload_n 0, 1) := dk_42 (dk_at dksX10_readDoor_4 6 rfl rfl)
theorem dX10_readDoor_103 : decode cX10_readDoor 103 = .ok (.iconst 0, 1) := dk_3 (dk_at dksX10_readDoor_4 7 rfl rfl)
theorem dX10_readDoor_104 : decode cX10_readDoor 104 = .ok (.aload_n 0, 1) := dk_42 (dk_at dksX10_readDoor_4 8 rfl rfl)
theorem dX10_readDoor_105 : decode cX10_readDoor 105 = .ok (.getfield 16, 3) := dk_180 0 16 (dk_at dksX10_readDoor_4 9 rfl rfl)
theorem dX10_readDoor_108 : decode cX10_readDoor 108 = .ok (.iconst 1, 1) := dk_4 (dk_at dksX10_readDoor_4 12 rfl rfl)
theorem dX10_readDoor_109 : decode cX10_readDoor 109 = .ok (.iaload, 1) := dk_46 (dk_at dksX10_readDoor_4 13 rfl rfl)
theorem dX10_readDoor_110 : decode cX10_readDoor 110 = .ok (.iconst 1, 1) := dk_4 (dk_at dksX10_readDoor_4 14 rfl rfl)
theorem dX10_readDoor_111 : decode cX10_readDoor 111 = .ok (.isub, 1) := dk_100 (dk_at dksX10_readDoor_4 15 rfl rfl)
theorem dX10_readDoor_112 : decode cX10_readDoor 112 = .ok (.invokevirtual 220, 3) := dk_182 0 220 (dk_at dksX10_readDoor_4 16 rfl rfl)
theorem dX10_readDoor_115 : decode cX10_readDoor 115 = .ok (.ifCond .ne 5, 3) := dk_154 0 5 (dk_at dksX10_readDoor_4 19 rfl rfl)
theorem dX10_readDoor_118 : decode cX10_readDoor 118 = .ok (.iconst 0, 1) := dk_3 (dk_at dksX10_readDoor_4 22 rfl rfl)
theorem dX10_readDoor_119 : decode cX10_readDoor 119 = .ok (.ireturn, 1) := dk_172 (dk_at dksX10_readDoor_4 23 rfl rfl)
theorem dX10_readDoor_120 : decode cX10_readDoor 120 = .ok (.aload_n 0, 1) := dk_42 (dk_at dksX10_readDoor_5 0 rfl rfl)
theorem dX10_readDoor_121 : decode cX10_readDoor 121 = .ok (.getfield 16, 3) := dk_180 0 16 (dk_at dksX10_readDoor_5 1 rfl rfl)
theorem dX10_readDoor_124 : decode cX10_readDoor 124 = .ok (.iload_n 2, 1) := dk_28 (dk_at dksX10_readDoor_5 4 rfl rfl)
theorem dX10_readDoor_125 : decode cX10_readDoor 125 = .ok (.iconst 1, 1) := dk_4 (dk_at dksX10_readDoor_5 5 rfl rfl)
theorem dX10_readDoor_126 : decode cX10_readDoor 126 = .ok (.iadd, 1) := dk_96 (dk_at dksX10_readDoor_5 6 rfl rfl)
theorem dX10_readDoor_127 : decode cX10_readDoor 127 = .ok (.aload_n 0, 1) := dk_42 (dk_at dksX10_readDoor_5 7 rfl rfl)
theorem dX10_readDoor_128 : decode cX10_readDoor 128 = .ok (.getfield 191, 3) := dk_180 0 191 (dk_at dksX10_readDoor_5 8 rfl rfl)
theorem dX10_readDoor_131 : decode cX10_readDoor 131 = .ok (.iastore, 1) := dk_79 (dk_at dksX10_readDoor_5 11 rfl rfl)
theorem dX10_readDoor_132 : decode cX10_readDoor 132 = .ok (.aload_n 0, 1) := dk_42 (dk_at dksX10_readDoor_5 12 rfl rfl)
theorem dX10_readDoor_133 : decode cX10_readDoor 133 = .ok (.iconst 4, 1) := dk_7 (dk_at dksX10_readDoor_5 13 rfl rfl)
theorem dX10_readDoor_134 : decode cX10_readDoor 134 = .ok (.invokevirtual 224, 3) := dk_182 0 224 (dk_at dksX10_readDoor_5 14 rfl rfl)
theorem dX10_readDoor_137 : decode cX10_readDoor 137 = .ok (.ifCond .ne 17, 3) := dk_154 0 17 (dk_at dksX10_readDoor_5 17 rfl rfl)
theorem dX10_readDoor_140 : decode cX10_readDoor 140 = .ok (.aload_n 0, 1) := dk_42 (dk_at dksX10_readDoor_5 20 rfl rfl)
theorem dX10_readDoor_141 : decode cX10_readDoor 141 = .ok (.iconst 5, 1) := dk_8 (dk_at dksX10_readDoor_5 21 rfl rfl)
theorem dX10_readDoor_142 : decode cX10_readDoor 142 = .ok (.invokevirtual 224, 3) := dk_182 0 224 (dk_at dksX10_readDoor_6 0 rfl rfl)
theorem dX10_readDoor_145 : decode cX10_readDoor 145 = .ok (.ifCond .ne 9, 3) := dk_154 0 9 (dk_at dksX10_readDoor_6 3 rfl rfl)
theorem dX10_readDoor_148 : decode cX10_readDoor 148 = .ok (.aload_n 0, 1) := dk_42 (dk_at dksX10_readDoor_6 6 rfl rfl)
theorem dX10_readDoor_149 : decode cX10_readDoor 149 = .ok (.iconst 1, 1) := dk_4 (dk_at dksX10_readDoor_6 7 rfl rfl)
theorem dX10_readDoor_150 : decode cX10_readDoor 150 = .ok (.invokevirtual 184, 3) := dk_182 0 184 (dk_at dksX10_readDoor_6 8 rfl rfl)
theorem dX10_readDoor_153 : decode cX10_readDoor 153 = .ok (.ireturn, 1) := dk_172 (dk_at dksX10_readDoor_6 11 rfl rfl)
theorem dX10_readDoor_154 : decode cX10_readDoor 154 = .ok (.aload_n 0, 1) := dk_42 (dk_at dksX10_readDoor_6 12 rfl rfl)
theorem dX10_readDoor_155 : decode cX10_readDoor 155 = .ok (.getfield 16, 3) := dk_180 0 16 (dk_at dksX10_readDoor_6 13 rfl rfl)
theorem dX10_readDoor_158 : decode cX10_readDoor 158 = .ok (.iload_n 2, 1) := dk_28 (dk_at dksX10_readDoor_6 16 rfl rfl)
theorem dX10_readDoor_159 : decode cX10_readDoor 159 = .ok (.iconst 2, 1) := dk_5 (dk_at dksX10_readDoor_6 17 rfl rfl)
theorem dX10_readDoor_160 : decode cX10_readDoor 160 = .ok (.iadd, 1) := dk_96 (dk_at dksX10_readDoor_6 18 rfl rfl)
theorem dX10_readDoor_161 : decode cX10_readDoor 161 = .ok (.aload_n 0, 1) := dk_42 (dk_at dksX10_readDoor_6 19 rfl rfl)
theorem dX10_readDoor_162 : decode cX10_readDoor 162 = .ok (.iconst 5, 1) := dk_8 (dk_at dksX10_readDoor_6 20 rfl rfl)
theorem dX10_readDoor_163 : decode cX10_readDoor 163 = .ok (.invokevirtual 224, 3) := dk_182 0 224 (dk_at dksX10_readDoor_6 21 rfl rfl)
theorem dX10_readDoor_166 : decode cX10_readDoor 166 = .ok (.ifCond .eq 7, 3) := dk_153 0 7 (dk_at dksX10_readDoor_7 0 rfl rfl)
theorem dX10_readDoor_169 : decode cX10_readDoor 169 = .ok (.iconst 1, 1) := dk_4 (dk_at dksX10_readDoor_7 3 rfl rfl)
theorem dX10_readDoor_170 : decode cX10_readDoor 170 = .ok (.goto 4, 3) := dk_167 0 4 (dk_at dksX10_readDoor_7 4 rfl rfl)
theorem dX10_readDoor_173 : decode cX10_readDoor 173 = .ok (.iconst 0, 1) := dk_3 (dk_at dksX10_readDoor_7 7 rfl rfl)
theorem dX10_readDoor_174 : decode cX10_readDoor 174 = .ok (.iastore, 1) := dk_79 (dk_at dksX10_readDoor_7 8 rfl rfl)
theorem dX10_readDoor_175 : decode cX10_readDoor 175 = .ok (.aload_n 0, 1) := dk_42 (dk_at dksX10_readDoor_7 9 rfl rfl)
theorem dX10_readDoor_176 : decode cX10_readDoor 176 = .ok (.invokevirtual 194, 3) := dk_182 0 194 (dk_at dksX10_readDoor_7 10 rfl rfl)
theorem dX10_readDoor_179 : decode cX10_readDoor 179 = .ok (.aload_n 0, 1) := dk_42 (dk_at dksX10_readDoor_7 13 rfl rfl)
theorem dX10_readDoor_180 : decode cX10_readDoor 180 = .ok (.getfield 131, 3) := dk_180 0 131 (dk_at dksX10_readDoor_7 14 rfl rfl)
theorem dX10_readDoor_183 : decode cX10_readDoor 183 = .ok (.iconst 3, 1) := dk_6 (dk_at dksX10_readDoor_7 17 rfl rfl)
theorem dX10_readDoor_184 : decode cX10_readDoor 184 = .ok (.if_icmp .eq 9, 3) := dk_159 0 9 (dk_at dksX10_readDoor_7 18 rfl rfl)
theorem dX10_readDoor_187 : decode cX10_readDoor 187 = .ok (.aload_n 0, 1) := dk_42 (dk_at dksX10_readDoor_7 21 rfl rfl)
theorem dX10_readDoor_188 : decode cX10_readDoor 188 = .ok (.iconst 1, 1) := dk_4 (dk_at dksX10_readDoor_7 22 rfl rfl)
theorem dX10_readDoor_189 : decode cX10_readDoor 189 = .ok (.invokevirtual 184, 3) := dk_182 0 184 (dk_at dksX10_readDoor_8 0 rfl rfl)
theorem dX10_readDoor_192 : decode cX10_readDoor 192 = .ok (.ireturn, 1) := dk_172 (dk_at dksX10_readDoor_8 3 rfl rfl)
theorem dX10_readDoor_193 : decode cX10_readDoor 193 = .ok (.aload_n 0, 1) := dk_42 (dk_at dksX10_readDoor_8 4 rfl rfl)
theorem dX10_readDoor_194 : decode cX10_readDoor 194 = .ok (.getfield 148, 3) := dk_180 0 148 (dk_at dksX10_readDoor_8 5 rfl rfl)
theorem dX10_readDoor_197 : decode cX10_readDoor 197 = .ok (.iconst 1, 1) := dk_4 (dk_at dksX10_readDoor_8 8 rfl rfl)
theorem dX10_readDoor_198 : decode cX10_readDoor 198 = .ok (.iconst 3, 1) := dk_6 (dk_at dksX10_readDoor_8 9 rfl rfl)
theorem dX10_readDoor_199 : decode cX10_readDoor 199 = .ok (.invokestatic 187, 3) := dk_184 0 187 (dk_at dksX10_readDoor_8 10 rfl rfl)
theorem dX10_readDoor_202 : decode cX10_readDoor 202 = .ok (.ifCond .ne 9, 3) := dk_154 0 9 (dk_at dksX10_readDoor_8 13 rfl rfl)
theorem dX10_readDoor_205 : decode cX10_readDoor 205 = .ok (.aload_n 0, 1) := dk_42 (dk_at dksX10_readDoor_8 16 rfl rfl)
theorem dX10_readDoor_206 : decode cX10_readDoor 206 = .ok (.iconst 2, 1) := dk_5 (dk_at dksX10_readDoor_8 17 rfl rfl)
theorem dX10_readDoor_207 : decode cX10_readDoor 207 = .ok (.invokevirtual 184, 3) := dk_182 0 184 (dk_at dksX10_readDoor_8 18 rfl rfl)
theorem dX10_readDoor_210 : decode cX10_readDoor 210 = .ok (.ireturn, 1) := dk_172 (dk_at dksX10_readDoor_8 21 rfl rfl)
theorem dX10_readDoor_211 : decode cX10_readDoor 211 = .ok (.aload_n 0, 1) := dk_42 (dk_at dksX10_readDoor_8 22 rfl rfl)
theorem dX10_readDoor_212 : decode cX10_readDoor 212 = .ok (.aload_n 0, 1) := dk_42 (dk_at dksX10_readDoor_8 23 rfl rfl)
theorem dX10_readDoor_213 : decode cX10_readDoor 213 = .ok (.getfield 16, 3) := dk_180 0 16 (dk_at dksX10_readDoor_9 0 rfl rfl)
theorem dX10_readDoor_216 : decode cX10_readDoor 216 = .ok (.iload_n 2, 1) := dk_28 (dk_at dksX10_readDoor_9 3 rfl rfl)
theorem dX10_readDoor_217 : decode cX10_readDoor 217 = .ok (.iconst 0, 1) := dk_3 (dk_at dksX10_readDoor_9 4 rfl rfl)
theorem dX10_readDoor_218 : decode cX10_readDoor 218 = .ok (.iadd, 1) := dk_96 (dk_at dksX10_readDoor_9 5 rfl rfl)
theorem dX10_readDoor_219 : decode cX10_readDoor 219 = .ok (.iaload, 1) := dk_46 (dk_at dksX10_readDoor_9 6 rfl rfl)
theorem dX10_readDoor_220 : decode cX10_readDoor 220 = .ok (.aload_n 0, 1) := dk_42 (dk_at dksX10_readDoor_9 7 rfl rfl)
theorem dX10_readDoor_221 : decode cX10_readDoor 221 = .ok (.getfield 16, 3) := dk_180 0 16 (dk_at dksX10_readDoor_9 8 rfl rfl)
theorem dX10_readDoor_224 : decode cX10_readDoor 224 = .ok (.iload_n 2, 1) := dk_28 (dk_at dksX10_readDoor_9 11 rfl rfl)
theorem dX10_readDoor_225 : decode cX10_readDoor 225 = .ok (.iconst 1, 1) := dk_4 (dk_at dksX10_readDoor_9 12 rfl rfl)
theorem dX10_readDoor_226 : decode cX10_readDoor 226 = .ok (.iadd, 1) := dk_96 (dk_at dksX10_readDoor_9 13 rfl rfl)
theorem dX10_readDoor_227 : decode cX10_readDoor 227 = .ok (.iaload, 1) := dk_46 (dk_at dksX10_readDoor_9 14 rfl rfl)
theorem dX10_readDoor_228 : decode cX10_readDoor 228 = .ok (.aload_n 0, 1) := dk_42 (dk_at dksX10_readDoor_9 15 rfl rfl)
theorem dX10_readDoor_229 : decode cX10_readDoor 229 = .ok (.getfield 16, 3) := dk_180 0 16 (dk_at dksX10_readDoor_9 16 rfl rfl)
theorem dX10_readDoor_232 : decode cX10_readDoor 232 = .ok (.iload_n 2, 1) := dk_28 (dk_at dksX10_readDoor_9 19 rfl rfl)
theorem dX10_readDoor_233 : decode cX10_readDoor 233 = .ok (.iconst 2, 1) := dk_5 (dk_at dksX10_readDoor_9 20 rfl rfl)
theorem dX10_readDoor_234 : decode cX10_readDoor 234 = .ok (.iadd, 1) := dk_96 (dk_at dksX10_readDoor_9 21 rfl rfl)
theorem dX10_readDoor_235 : decode cX10_readDoor 235 = .ok (.iaload, 1) := dk_46 (dk_at dksX10_readDoor_9 22 rfl rfl)
theorem dX10_readDoor_236 : decode cX10_readDoor 236 = .ok (.aload_n 0, 1) := dk_42 (dk_at dksX10_readDoor_9 23 rfl rfl)
theorem dX10_readDoor_237 : decode cX10_readDoor 237 = .ok (.getfield 148, 3) := dk_180 0 148 (dk_at dksX10_readDoor_10 0 rfl rfl)
theorem dX10_readDoor_240 : decode cX10_readDoor 240 = .ok (.invokevirtual 227, 3) := dk_182 0 227 (dk_at dksX10_readDoor_10 3 rfl rfl)
theorem dX10_readDoor_243 : decode cX10_readDoor 243 = .ok (.istore_n 3, 1) := dk_62 (dk_at dksX10_readDoor_10 6 rfl rfl)
theorem dX10_readDoor_244 : decode cX10_readDoor 244 = .ok (.iload_n 3, 1) := dk_29 (dk_at dksX10_readDoor_10 7 rfl rfl)
theorem dX10_readDoor_245 : decode cX10_readDoor 245 = .ok (.ifCond .le 9, 3) := dk_158 0 9 (dk_at dksX10_readDoor_10 8 rfl rfl)
theorem dX10_readDoor_248 : decode cX10_readDoor 248 = .ok (.aload_n 0, 1) := dk_42 (dk_at dksX10_readDoor_10 11 rfl rfl)
theorem dX10_readDoor_249 : decode cX10_readDoor 249 = .ok (.iload_n 3, 1) := dk_29 (dk_at dksX10_readDoor_10 12 rfl rfl)
theorem dX10_readDoor_250 : decode cX10_readDoor 250 = .ok (.invokevirtual 184, 3) := dk_182 0 184 (dk_at dksX10_readDoor_10 13 rfl rfl)
theorem dX10_readDoor_253 : decode cX10_readDoor 253 = .ok (.ireturn, 1) := dk_172 (dk_at dksX10_readDoor_10 16 rfl rfl)
theorem dX10_readDoor_254 : decode cX10_readDoor 254 = .ok (.aload_n 0, 1) := dk_42 (dk_at dksX10_readDoor_10 17 rfl rfl)
theorem dX10_readDoor_255 : decode cX10_readDoor 255 = .ok (.getfield 16, 3) := dk_180 0 16 (dk_at dksX10_readDoor_10 18 rfl rfl)
theorem dX10_readDoor_258 : decode cX10_readDoor 258 = .ok (.iload_n 2, 1) := dk_28 (dk_at dksX10_readDoor_10 21 rfl rfl)
theorem dX10_readDoor_259 : decode cX10_readDoor 259 = .ok (.iconst 3, 1) := dk_6 (dk_at dksX10_readDoor_10 22 rfl rfl)
theorem dX10_readDoor_260 : decode cX10_readDoor 260 = .ok (.iadd, 1) := dk_96 (dk_at dksX10_readDoor_10 23 rfl rfl)
theorem dX10_readDoor_261 : decode cX10_readDoor 261 = .ok (.aload_n 0, 1) := dk_42 (dk_at dksX10_readDoor_11 0 rfl rfl)
theorem dX10_readDoor_262 : decode cX10_readDoor 262 = .ok (.getfield 148, 3) := dk_180 0 148 (dk_at dksX10_readDoor_11 1 rfl rfl)
theorem dX10_readDoor_265 : decode cX10_readDoor 265 = .ok (.iastore, 1) := dk_79 (dk_at dksX10_readDoor_11 4 rfl rfl)
theorem dX10_readDoor_266 : decode cX10_readDoor 266 = .ok (.aload_n 0, 1) := dk_42 (dk_at dksX10_readDoor_11 5 rfl rfl)
theorem dX10_readDoor_267 : decode cX10_readDoor 267 = .ok (.invokevirtual 194, 3) := dk_182 0 194 (dk_at dksX10_readDoor_11 6 rfl rfl)
theorem dX10_readDoor_270 : decode cX10_readDoor 270 = .ok (.aload_n 0, 1) := dk_42 (dk_at dksX10_readDoor_11 9 rfl rfl)
theorem dX10_readDoor_271 : decode cX10_readDoor 271 = .ok (.iconst 0, 1) := dk_3 (dk_at dksX10_readDoor_11 10 rfl rfl)
theorem dX10_readDoor_272 : decode cX10_readDoor 272 = .ok (.iconst 3, 1) := dk_6 (dk_at dksX10_readDoor_11 11 rfl rfl)
theorem dX10_readDoor_273 : decode cX10_readDoor 273 = .ok (.invokevirtual 220, 3) := dk_182 0 220 (dk_at dksX10_readDoor_11 12 rfl rfl)
theorem dX10_readDoor_276 : decode cX10_readDoor 276 = .ok (.ifCond .ne 5, 3) := dk_154 0 5 (dk_at dksX10_readDoor_11 15 rfl rfl)
theorem dX10_readDoor_279 : decode cX10_readDoor 279 = .ok (.iconst 0, 1) := dk_3 (dk_at dksX10_readDoor_11 18 rfl rfl)
theorem dX10_readDoor_280 : decode cX10_readDoor 280 = .ok (.ireturn, 1) := dk_172 (dk_at dksX10_readDoor_11 19 rfl rfl)
theorem dX10_readDoor_281 : decode cX10_readDoor 281 = .ok (.aload_n 0, 1) := dk_42 (dk_at dksX10_readDoor_11 20 rfl rfl)
theorem dX10_readDoor_282 : decode cX10_readDoor 282 = .ok (.getfield 16, 3) := dk_180 0 16 (dk_at dksX10_readDoor_11 21 rfl rfl)
theorem dX10_readDoor_285 : decode cX10_readDoor 285 = .ok (.iload_n 2, 1) := dk_28 (dk_at dksX10_readDoor_12 0 rfl rfl)
theorem dX10_readDoor_286 : decode cX10_readDoor 286 = .ok (.iconst 4, 1) := dk_7 (dk_at dksX10_readDoor_12 1 rfl rfl)
theorem dX10_readDoor_287 : decode cX10_readDoor 287 = .ok (.iadd, 1) := dk_96 (dk_at dksX10_readDoor_12 2 rfl rfl)
theorem dX10_readDoor_288 : decode cX10_readDoor 288 = .ok (.aload_n 0, 1) := dk_42 (dk_at dksX10_readDoor_12 3 rfl rfl)
theorem dX10_readDoor_289 : decode cX10_readDoor 289 = .ok (.getfield 191, 3) := dk_180 0 191 (dk_at dksX10_readDoor_12 4 rfl rfl)
theorem dX10_readDoor_292 : decode cX10_readDoor 292 = .ok (.iastore, 1) := dk_79 (dk_at dksX10_readDoor_12 7 rfl rfl)
theorem dX10_readDoor_293 : decode cX10_readDoor 293 = .ok (.aload_n 0, 1) := dk_42 (dk_at dksX10_readDoor_12 8 rfl rfl)
theorem dX10_readDoor_294 : decode cX10_readDoor 294 = .ok (.getfield 16, 3) := dk_180 0 16 (dk_at dksX10_readDoor_12 9 rfl rfl)
theorem dX10_readDoor_297 : decode cX10_readDoor 297 = .ok (.iload_n 2, 1) := dk_28 (dk_at dksX10_readDoor_12 12 rfl rfl)
theorem dX10_readDoor_298 : decode cX10_readDoor 298 = .ok (.iconst 5, 1) := dk_8 (dk_at dksX10_readDoor_12 13 rfl rfl)
theorem dX10_readDoor_299 : decode cX10_readDoor 299 = .ok (.iadd, 1) := dk_96 (dk_at dksX10_readDoor_12 14 rfl rfl)
theorem dX10_readDoor_300 : decode cX10_readDoor 300 = .ok (.iconst 1, 1) := dk_4 (dk_at dksX10_readDoor_12 15 rfl rfl)
theorem dX10_readDoor_301 : decode cX10_readDoor 301 = .ok (.aload_n 0, 1) := dk_42 (dk_at dksX10_readDoor_12 16 rfl rfl)
theorem dX10_readDoor_302 : decode cX10_readDoor 302 = .ok (.getfield 191, 3) := dk_180 0 191 (dk_at dksX10_readDoor_12 17 rfl rfl)
theorem dX10_readDoor_305 : decode cX10_readDoor 305 = .ok (.ishl, 1) := dk_120 (dk_at dksX10_readDoor_12 20 rfl rfl)
theorem dX10_readDoor_306 : decode cX10_readDoor 306 = .ok (.iastore, 1) := dk_79 (dk_at dksX10_readDoor_12 21 rfl rfl)
theorem dX10_readDoor_307 : decode cX10_readDoor 307 = .ok (.aload_n 0, 1) := dk_42 (dk_at dksX10_readDoor_12 22 rfl rfl)
theorem dX10_readDoor_308 : decode cX10_readDoor 308 = .ok (.bipush 6, 2) := dk_16 6 (dk_at dksX10_readDoor_13 0 rfl rfl)
theorem dX10_readDoor_310 : decode cX10_readDoor 310 = .ok (.invokevirtual 224, 3) := dk_182 0 224 (dk_at dksX10_readDoor_13 2 rfl rfl)
theorem dX10_readDoor_313 : decode cX10_readDoor 313 = .ok (.ifCond .eq 83, 3) := dk_153 0 83 (dk_at dksX10_readDoor_13 5 rfl rfl)
theorem dX10_readDoor_316 : decode cX10_readDoor 316 = .ok (.aload_n 0, 1) := dk_42 (dk_at dksX10_readDoor_13 8 rfl rfl)
theorem dX10_readDoor_317 : decode cX10_readDoor 317 = .ok (.invokevirtual 194, 3) := dk_182 0 194 (dk_at dksX10_readDoor_13 9 rfl rfl)
theorem dX10_readDoor_320 : decode cX10_readDoor 320 = .ok (.aload_n 0, 1) := dk_42 (dk_at dksX10_readDoor_13 12 rfl rfl)
theorem dX10_readDoor_321 : decode cX10_readDoor 321 = .ok (.getfield 131, 3) := dk_180 0 131 (dk_at dksX10_readDoor_13 13 rfl rfl)
theorem dX10_readDoor_324 : decode cX10_readDoor 324 = .ok (.iconst 3, 1) := dk_6 (dk_at dksX10_readDoor_13 16 rfl rfl)
theorem dX10_readDoor_325 : decode cX10_readDoor 325 = .ok (.if_icmp .eq 9, 3) := dk_159 0 9 (dk_at dksX10_readDoor_13 17 rfl rfl)
theorem dX10_readDoor_328 : decode cX10_readDoor 328 = .ok (.aload_n 0, 1) := dk_42 (dk_at dksX10_readDoor_13 20 rfl rfl)
theorem dX10_readDoor_329 : decode cX10_readDoor 329 = .ok (.iconst 1, 1) := dk_4 (dk_at dksX10_readDoor_13 21 rfl rfl)
theorem dX10_readDoor_330 : decode cX10_readDoor 330 = .ok (.invokevirtual 184, 3) := dk_182 0 184 (dk_at dksX10_readDoor_14 0 rfl rfl)
theorem dX10_readDoor_333 : decode cX10_readDoor 333 = .ok (.ireturn, 1) := dk_172 (dk_at dksX10_readDoor_14 3 rfl rfl)
theorem dX10_readDoor_334 : decode cX10_readDoor 334 = .ok (.aload_n 0, 1) := dk_42 (dk_at dksX10_readDoor_14 4 rfl rfl)
theorem dX10_readDoor_335 : decode cX10_readDoor 335 = .ok (.getfield 148, 3) := dk_180 0 148 (dk_at dksX10_readDoor_14 5 rfl rfl)
theorem dX10_readDoor_338 : decode cX10_readDoor 338 = .ok (.iconst 3, 1) := dk_6 (dk_at dksX10_readDoor_14 8 rfl rfl)
theorem dX10_readDoor_339 : decode cX10_readDoor 339 = .ok (.if_icmp .le 9, 3) := dk_164 0 9 (dk_at dksX10_readDoor_14 9 rfl rfl)
theorem dX10_readDoor_342 : decode cX10_readDoor 342 = .ok (.aload_n 0, 1) := dk_42 (dk_at dksX10_readDoor_14 12 rfl rfl)
theorem dX10_readDoor_343 : decode cX10_readDoor 343 = .ok (.iconst 2, 1) := dk_5 (dk_at dksX10_readDoor_14 13 rfl rfl)
theorem dX10_readDoor_344 : decode cX10_readDoor 344 = .ok (.invokevirtual 184, 3) := dk_182 0 184 (dk_at dksX10_readDoor_14 14 rfl rfl)
theorem dX10_readDoor_347 : decode cX10_readDoor 347 = .ok (.ireturn, 1) := dk_172 (dk_at dksX10_readDoor_14 17 rfl rfl)
theorem dX10_readDoor_348 : decode cX10_readDoor 348 = .ok (.aload_n 0, 1) := dk_42 (dk_at dksX10_readDoor_14 18 rfl rfl)
theorem dX10_readDoor_349 : decode cX10_readDoor 349 = .ok (.getfield 16, 3) := dk_180 0 16 (dk_at dksX10_readDoor_14 19 rfl rfl)
theorem dX10_readDoor_352 : decode cX10_readDoor 352 = .ok (.iload_n 2, 1) := dk_28 (dk_at dksX10_readDoor_14 22 rfl rfl)
theorem dX10_readDoor_353 : decode cX10_readDoor 353 = .ok (.iconst 5, 1) := dk_8 (dk_at dksX10_readDoor_14 23 rfl rfl)
theorem dX10_readDoor_354 : decode cX10_readDoor 354 = .ok (.iadd, 1) := dk_96 (dk_at dksX10_readDoor_15 0 rfl rfl)
theorem dX10_readDoor_355 : decode cX10_readDoor 355 = .ok (.iaload, 1) := dk_46 (dk_at dksX10_readDoor_15 1 rfl rfl)
theorem dX10_readDoor_356 : decode cX10_readDoor 356 = .ok (.aload_n 0, 1) := dk_42 (dk_at dksX10_readDoor_15 2 rfl rfl)
theorem dX10_readDoor_357 : decode cX10_readDoor 357 = .ok (.getfield 148, 3) := dk_180 0 148 (dk_at dksX10_readDoor_15 3 rfl rfl)
theorem dX10_readDoor_360 : decode cX10_readDoor 360 = .ok (.invokestatic 231, 3) := dk_184 0 231 (dk_at dksX10_readDoor_15 6 rfl rfl)
theorem dX10_readDoor_363 : decode cX10_readDoor 363 = .ok (.ifCond .eq 9, 3) := dk_153 0 9 (dk_at dksX10_readDoor_15 9 rfl rfl)
theorem dX10_readDoor_366 : decode cX10_readDoor 366 = .ok (.aload_n 0, 1) := dk_42 (dk_at dksX10_readDoor_15 12 rfl rfl)
theorem dX10_readDoor_367 : decode cX10_readDoor 367 = .ok (.iconst 3, 1) := dk_6 (dk_at dksX10_readDoor_15 13 rfl rfl)
theorem dX10_readDoor_368 : decode cX10_readDoor 368 = .ok (.invokevirtual 184, 3) := dk_182 0 184 (dk_at dksX10_readDoor_15 14 rfl rfl)
theorem dX10_readDoor_371 : decode cX10_readDoor 371 = .ok (.ireturn, 1) := dk_172 (dk_at dksX10_readDoor_15 17 rfl rfl)
theorem dX10_readDoor_372 : decode cX10_readDoor 372 = .ok (.aload_n 0, 1) := dk_42 (dk_at dksX10_readDoor_15 18 rfl rfl)
theorem dX10_readDoor_373 : decode cX10_readDoor 373 = .ok (.getfield 16, 3) := dk_180 0 16 (dk_at dksX10_readDoor_15 19 rfl rfl)
theorem dX10_readDoor_376 : decode cX10_readDoor 376 = .ok (.iload_n 2, 1) := dk_28 (dk_at dksX10_readDoor_15 22 rfl rfl)
theorem dX10_readDoor_377 : decode cX10_readDoor 377 = .ok (.iconst 5, 1) := dk_8 (dk_at dksX10_readDoor_15 23 rfl rfl)
theorem dX10_readDoor_378 : decode cX10_readDoor 378 = .ok (.iadd, 1) := dk_96 (dk_at dksX10_readDoor_16 0 rfl rfl)
theorem dX10_readDoor_379 : decode cX10_readDoor 379 = .ok (.dup2, 1) := dk_92 (dk_at dksX10_readDoor_16 1 rfl rfl)
theorem dX10_readDoor_380 : decode cX10_readDoor 380 = .ok (.iaload, 1) := dk_46 (dk_at dksX10_readDoor_16 2 rfl rfl)
theorem dX10_readDoor_381 : decode cX10_readDoor 381 = .ok (.iconst 1, 1) := dk_4 (dk_at dksX10_readDoor_16 3 rfl rfl)
theorem dX10_readDoor_382 : decode cX10_readDoor 382 = .ok (.aload_n 0, 1) := dk_42 (dk_at dksX10_readDoor_16 4 rfl rfl)
theorem dX10_readDoor_383 : decode cX10_readDoor 383 = .ok (.getfield 148, 3) := dk_180 0 148 (dk_at dksX10_readDoor_16 5 rfl rfl)
theorem dX10_readDoor_386 : decode cX10_readDoor 386 = .ok (.ishl, 1) := dk_120 (dk_at dksX10_readDoor_16 8 rfl rfl)
theorem dX10_readDoor_387 : decode cX10_readDoor 387 = .ok (.ior, 1) := dk_128 (dk_at dksX10_readDoor_16 9 rfl rfl)
theorem dX10_readDoor_388 : decode cX10_readDoor 388 = .ok (.iastore, 1) := dk_79 (dk_at dksX10_readDoor_16 10 rfl rfl)
theorem dX10_readDoor_389 : decode cX10_readDoor 389 = .ok (.aload_n 0, 1) := dk_42 (dk_at dksX10_readDoor_16 11 rfl rfl)
theorem dX10_readDoor_390 : decode cX10_readDoor 390 = .ok (.invokevirtual 194, 3) := dk_182 0 194 (dk_at dksX10_readDoor_16 12 rfl rfl)
theorem dX10_readDoor_393 : decode cX10_readDoor 393 = .ok (.goto (-86), 3) := dk_167 255 170 (dk_at dksX10_readDoor_16 15 rfl rfl)
theorem dX10_readDoor_396 : decode cX10_readDoor 396 = .ok (.aload_n 0, 1) := dk_42 (dk_at dksX10_readDoor_16 18 rfl rfl)
theorem dX10_readDoor_397 : decode cX10_readDoor 397 = .ok (.getfield 16, 3) := dk_180 0 16 (dk_at dksX10_readDoor_16 19 rfl rfl)
theorem dX10_readDoor_400 : decode cX10_readDoor 400 = .ok (.iload_n 2, 1) := dk_28 (dk_at dksX10_readDoor_16 22 rfl rfl)
theorem dX10_readDoor_401 : decode cX10_readDoor 401 = .ok (.bipush 6, 2) := dk_16 6 (dk_at dksX10_readDoor_17 0 rfl rfl)
theorem dX10_readDoor_403 : decode cX10_readDoor 403 = .ok (.iadd, 1) := dk_96 (dk_at dksX10_readDoor_17 2 rfl rfl)
theorem dX10_readDoor_404 : decode cX10_readDoor 404 = .ok (.iconst 1, 1) := dk_4 (dk_at dksX10_readDoor_17 3 rfl rfl)
theorem dX10_readDoor_405 : decode cX10_readDoor 405 = .ok (.iastore, 1) := dk_79 (dk_at dksX10_readDoor_17 4 rfl rfl)
theorem dX10_readDoor_406 : decode cX10_readDoor 406 = .ok (.aload_n 0, 1) := dk_42 (dk_at dksX10_readDoor_17 5 rfl rfl)
theorem dX10_readDoor_407 : decode cX10_readDoor 407 = .ok (.bipush 7, 2) := dk_16 7 (dk_at dksX10_readDoor_17 6 rfl rfl)
theorem dX10_readDoor_409 : decode cX10_readDoor 409 = .ok (.invokevirtual 224, 3) := dk_182 0 224 (dk_at dksX10_readDoor_17 8 rfl rfl)
theorem dX10_readDoor_412 : decode cX10_readDoor 412 = .ok (.ifCond .eq 32, 3) := dk_153 0 32 (dk_at dksX10_readDoor_17 11 rfl rfl)
theorem dX10_readDoor_415 : decode cX10_readDoor 415 = .ok (.aload_n 0, 1) := dk_42 (dk_at dksX10_readDoor_17 14 rfl rfl)
theorem dX10_readDoor_416 : decode cX10_readDoor 416 = .ok (.invokevirtual 194, 3) := dk_182 0 194 (dk_at dksX10_readDoor_17 15 rfl rfl)
theorem dX10_readDoor_419 : decode cX10_readDoor 419 = .ok (.aload_n 0, 1) := dk_42 (dk_at dksX10_readDoor_17 18 rfl rfl)
theorem dX10_readDoor_420 : decode cX10_readDoor 420 = .ok (.iconst 1, 1) := dk_4 (dk_at dksX10_readDoor_17 19 rfl rfl)
theorem dX10_readDoor_421 : decode cX10_readDoor 421 = .ok (.bipush 99, 2) := dk_16 99 (dk_at dksX10_readDoor_17 20 rfl rfl)
theorem dX10_readDoor_423 : decode cX10_readDoor 423 = .ok (.invokevirtual 220, 3) := dk_182 0 220 (dk_at dksX10_readDoor_18 0 rfl rfl)
theorem dX10_readDoor_426 : decode cX10_readDoor 426 = .ok (.ifCond .ne 5, 3) := dk_154 0 5 (dk_at dksX10_readDoor_18 3 rfl rfl)
theorem dX10_readDoor_429 : decode cX10_readDoor 429 = .ok (.iconst 0, 1) := dk_3 (dk_at dksX10_readDoor_18 6 rfl rfl)
theorem dX10_readDoor_430 : decode cX10_readDoor 430 = .ok (.ireturn, 1) := dk_172 (dk_at dksX10_readDoor_18 7 rfl rfl)
theorem dX10_readDoor_431 : decode cX10_readDoor 431 = .ok (.aload_n 0, 1) := dk_42 (dk_at dksX10_readDoor_18 8 rfl rfl)
theorem dX10_readDoor_432 : decode cX10_readDoor 432 = .ok (.getfield 16, 3) := dk_180 0 16 (dk_at dksX10_readDoor_18 9 rfl rfl)
theorem dX10_readDoor_435 : decode cX10_readDoor 435 = .ok (.iload_n 2, 1) := dk_28 (dk_at dksX10_readDoor_18 12 rfl rfl)
theorem dX10_readDoor_436 : decode cX10_readDoor 436 = .ok (.bipush 6, 2) := dk_16 6 (dk_at dksX10_readDoor_18 13 rfl rfl)
theorem dX10_readDoor_438 : decode cX10_readDoor 438 = .ok (.iadd, 1) := dk_96 (dk_at dksX10_readDoor_18 15 rfl rfl)
theorem dX10_readDoor_439 : decode cX10_readDoor 439 = .ok (.aload_n 0, 1) := dk_42 (dk_at dksX10_readDoor_18 16 rfl rfl)
theorem dX10_readDoor_440 : decode cX10_readDoor 440 = .ok (.getfield 191, 3) := dk_180 0 191 (dk_at dksX10_readDoor_18 17 rfl rfl)
theorem dX10_readDoor_443 : decode cX10_readDoor 443 = .ok (.iastore, 1) := dk_79 (dk_at dksX10_readDoor_18 20 rfl rfl)
theorem dX10_readDoor_444 : decode cX10_readDoor 444 = .ok (.aload_n 0, 1) := dk_42 (dk_at dksX10_readDoor_18 21 rfl rfl)
theorem dX10_readDoor_445 : decode cX10_readDoor 445 = .ok (.getfield 16, 3) := dk_180 0 16 (dk_at dksX10_readDoor_19 0 rfl rfl)
theorem dX10_readDoor_448 : decode cX10_readDoor 448 = .ok (.iload_n 2, 1) := dk_28 (dk_at dksX10_readDoor_19 3 rfl rfl)
theorem dX10_readDoor_449 : decode cX10_readDoor 449 = .ok (.bipush 7, 2) := dk_16 7 (dk_at dksX10_readDoor_19 4 rfl rfl)
theorem dX10_readDoor_451 : decode cX10_readDoor 451 = .ok (.iadd, 1) := dk_96 (dk_at dksX10_readDoor_19 6 rfl rfl)
theorem dX10_readDoor_452 : decode cX10_readDoor 452 = .ok (.aload_n 0, 1) := dk_42 (dk_at dksX10_readDoor_19 7 rfl rfl)
theorem dX10_readDoor_453 : decode cX10_readDoor 453 = .ok (.bipush 8, 2) := dk_16 8 (dk_at dksX10_readDoor_19 8 rfl rfl)
theorem dX10_readDoor_455 : decode cX10_readDoor 455 = .ok (.invokevirtual 224, 3) := dk_182 0 224 (dk_at dksX10_readDoor_19 10 rfl rfl)
theorem dX10_readDoor_458 : decode cX10_readDoor 458 = .ok (.ifCond .eq 7, 3) := dk_153 0 7 (dk_at dksX10_readDoor_19 13 rfl rfl)
theorem dX10_readDoor_461 : decode cX10_readDoor 461 = .ok (.iconst 1, 1) := dk_4 (dk_at dksX10_readDoor_19 16 rfl rfl)
theorem dX10_readDoor_462 : decode cX10_readDoor 462 = .ok (.goto 4, 3) := dk_167 0 4 (dk_at dksX10_readDoor_19 17 rfl rfl)
theorem dX10_readDoor_465 : decode cX10_readDoor 465 = .ok (.iconst 0, 1) := dk_3 (dk_at dksX10_readDoor_19 20 rfl rfl)
theorem dX10_readDoor_466 : decode cX10_readDoor 466 = .ok (.iastore, 1) := dk_79 (dk_at dksX10_readDoor_19 21 rfl rfl)
theorem dX10_readDoor_467 : decode cX10_readDoor 467 = .ok (.aload_n 0, 1) := dk_42 (dk_at dksX10_readDoor_19 22 rfl rfl)
theorem dX10_readDoor_468 : decode cX10_readDoor 468 = .ok (.bipush 8, 2) := dk_16 8 (dk_at dksX10_readDoor_20 0 rfl rfl)
theorem dX10_readDoor_470 : decode cX10_readDoor 470 = .ok (.invokevirtual 224, 3) := dk_182 0 224 (dk_at dksX10_readDoor_20 2 rfl rfl)
theorem dX10_readDoor_473 : decode cX10_readDoor 473 = .ok (.ifCond .eq 7, 3) := dk_153 0 7 (dk_at dksX10_readDoor_20 5 rfl rfl)
theorem dX10_readDoor_476 : decode cX10_readDoor 476 = .ok (.aload_n 0, 1) := dk_42 (dk_at dksX10_readDoor_20 8 rfl rfl)
theorem dX10_readDoor_477 : decode cX10_readDoor 477 = .ok (.invokevirtual 194, 3) := dk_182 0 194 (dk_at dksX10_readDoor_20 9 rfl rfl)
theorem dX10_readDoor_480 : decode cX10_readDoor 480 = .ok (.iconst 0, 1) := dk_3 (dk_at dksX10_readDoor_20 12 rfl rfl)
theorem dX10_readDoor_481 : decode cX10_readDoor 481 = .ok (.istore 4, 2) := dk_54 4 (dk_at dksX10_readDoor_20 13 rfl rfl)
theorem dX10_readDoor_483 : decode cX10_readDoor 483 = .ok (.iload 4, 2) := dk_21 4 (dk_at dksX10_readDoor_20 15 rfl rfl)
theorem dX10_readDoor_485 : decode cX10_readDoor 485 = .ok (.aload_n 0, 1) := dk_42 (dk_at dksX10_readDoor_20 17 rfl rfl)
theorem dX10_readDoor_486 : decode cX10_readDoor 486 = .ok (.getfield 16, 3) := dk_180 0 16 (dk_at dksX10_readDoor_20 18 rfl rfl)
theorem dX10_readDoor_489 : decode cX10_readDoor 489 = .ok (.iload_n 2, 1) := dk_28 (dk_at dksX10_readDoor_20 21 rfl rfl)
theorem dX10_readDoor_490 : decode cX10_readDoor 490 = .ok (.iconst 3, 1) := dk_6 (dk_at dksX10_readDoor_20 22 rfl rfl)
theorem dX10_readDoor_491 : decode cX10_readDoor 491 = .ok (.iadd, 1) := dk_96 (dk_at dksX10_readDoor_20 23 rfl rfl)
theorem dX10_readDoor_492 : decode cX10_readDoor 492 = .ok (.iaload, 1) := dk_46 (dk_at dksX10_readDoor_21 0 rfl rfl)
theorem dX10_readDoor_493 : decode cX10_readDoor 493 = .ok (.if_icmp .ge 86, 3) := dk_162 0 86 (dk_at dksX10_readDoor_21 1 rfl rfl)
theorem dX10_readDoor_496 : decode cX10_readDoor 496 = .ok (.aload_n 0, 1) := dk_42 (dk_at dksX10_readDoor_21 4 rfl rfl)
theorem dX10_readDoor_497 : decode cX10_readDoor 497 = .ok (.getfield 16, 3) := dk_180 0 16 (dk_at dksX10_readDoor_21 5 rfl rfl)
theorem dX10_readDoor_500 : decode cX10_readDoor 500 = .ok (.iload_n 2, 1) := dk_28 (dk_at dksX10_readDoor_21 8 rfl rfl)
theorem dX10_readDoor_501 : decode cX10_readDoor 501 = .ok (.iconst 0, 1) := dk_3 (dk_at dksX10_readDoor_21 9 rfl rfl)
theorem dX10_readDoor_502 : decode cX10_readDoor 502 = .ok (.iadd, 1) := dk_96 (dk_at dksX10_readDoor_21 10 rfl rfl)
theorem dX10_readDoor_503 : decode cX10_readDoor 503 = .ok (.iaload, 1) := dk_46 (dk_at dksX10_readDoor_21 11 rfl rfl)
theorem dX10_readDoor_504 : decode cX10_readDoor 504 = .ok (.aload_n 0, 1) := dk_42 (dk_at dksX10_readDoor_21 12 rfl rfl)
theorem dX10_readDoor_505 : decode cX10_readDoor 505 = .ok (.getfield 16, 3) := dk_180 0 16 (dk_at dksX10_readDoor_21 13 rfl rfl)
theorem dX10_readDoor_508 : decode cX10_readDoor 508 = .ok (.iload_n 2, 1) := dk_28 (dk_at dksX10_readDoor_21 16 rfl rfl)
theorem dX10_readDoor_509 : decode cX10_readDoor 509 = .ok (.iconst 2, 1) := dk_5 (dk_at dksX10_readDoor_21 17 rfl rfl)
theorem dX10_readDoor_510 : decode cX10_readDoor 510 = .ok (.iadd, 1) := dk_96 (dk_at dksX10_readDoor_21 18 rfl rfl)
theorem dX10_readDoor_511 : decode cX10_readDoor 511 = .ok (.iaload, 1) := dk_46 (dk_at dksX10_readDoor_21 19 rfl rfl)
theorem dX10_readDoor_512 : decode cX10_readDoor 512 = .ok (.ifCond .ne 8, 3) := dk_154 0 8 (dk_at dksX10_readDoor_21 20 rfl rfl)
theorem dX10_readDoor_515 : decode cX10_readDoor 515 = .ok (.iload 4, 2) := dk_21 4 (dk_at dksX10_readDoor_22 0 rfl rfl)
theorem dX10_readDoor_517 : decode cX10_readDoor 517 = .ok (.goto 4, 3) := dk_167 0 4 (dk_at dksX10_readDoor_22 2 rfl rfl)
theorem dX10_readDoor_520 : decode cX10_readDoor 520 = .ok (.iconst 0, 1) := dk_3 (dk_at dksX10_readDoor_22 5 rfl rfl)
theorem dX10_readDoor_521 : decode cX10_readDoor 521 = .ok (.iadd, 1) := dk_96 (dk_at dksX10_readDoor_22 6 rfl rfl)
theorem dX10_readDoor_522 : decode cX10_readDoor 522 = .ok (.istore 5, 2) := dk_54 5 (dk_at dksX10_readDoor_22 7 rfl rfl)
theorem dX10_readDoor_524 : decode cX10_readDoor 524 = .ok (.aload_n 0, 1) := dk_42 (dk_at dksX10_readDoor_22 9 rfl rfl)
theorem dX10_readDoor_525 : decode cX10_readDoor 525 = .ok (.getfield 16, 3) := dk_180 0 16 (dk_at dksX10_readDoor_22 10 rfl rfl)
theorem dX10_readDoor_528 : decode cX10_readDoor 528 = .ok (.iload_n 2, 1) := dk_28 (dk_at dksX10_readDoor_22 13 rfl rfl)
theorem dX10_readDoor_529 : decode cX10_readDoor 529 = .ok (.iconst 1, 1) := dk_4 (dk_at dksX10_readDoor_22 14 rfl rfl)
theorem dX10_readDoor_530 : decode cX10_readDoor 530 = .ok (.iadd, 1) := dk_96 (dk_at dksX10_readDoor_22 15 rfl rfl)
theorem dX10_readDoor_531 : decode cX10_readDoor 531 = .ok (.iaload, 1) := dk_46 (dk_at dksX10_readDoor_22 16 rfl rfl)
theorem dX10_readDoor_532 : decode cX10_readDoor 532 = .ok (.aload_n 0, 1) := dk_42 (dk_at dksX10_readDoor_22 17 rfl rfl)
theorem dX10_readDoor_533 : decode cX10_readDoor 533 = .ok (.getfield 16, 3) := dk_180 0 16 (dk_at dksX10_readDoor_22 18 rfl rfl)
theorem dX10_readDoor_536 : decode cX10_readDoor 536 = .ok (.iload_n 2, 1) := dk_28 (dk_at dksX10_readDoor_22 21 rfl rfl)
theorem dX10_readDoor_537 : decode cX10_readDoor 537 = .ok (.iconst 2, 1) := dk_5 (dk_at dksX10_readDoor_22 22 rfl rfl)
theorem dX10_readDoor_538 : decode cX10_readDoor 538 = .ok (.iadd, 1) := dk_96 (dk_at dksX10_readDoor_22 23 rfl rfl)
theorem dX10_readDoor_539 : decode cX10_readDoor 539 = .ok (.iaload, 1) := dk_46 (dk_at dksX10_readDoor_23 0 rfl rfl)
theorem dX10_readDoor_540 : decode cX10_readDoor 540 = .ok (.iconst 1, 1) := dk_4 (dk_at dksX10_readDoor_23 1 rfl rfl)
theorem dX10_readDoor_541 : decode cX10_readDoor 541 = .ok (.if_icmp .ne 8, 3) := dk_160 0 8 (dk_at dksX10_readDoor_23 2 rfl rfl)
theorem dX10_readDoor_544 : decode cX10_readDoor 544 = .ok (.iload 4, 2) := dk_21 4 (dk_at dksX10_readDoor_23 5 rfl rfl)
theorem dX10_readDoor_546 : decode cX10_readDoor 546 = .ok (.goto 4, 3) := dk_167 0 4 (dk_at dksX10_readDoor_23 7 rfl rfl)
theorem dX10_readDoor_549 : decode cX10_readDoor 549 = .ok (.iconst 0, 1) := dk_3 (dk_at dksX10_readDoor_23 10 rfl rfl)
theorem dX10_readDoor_550 : decode cX10_readDoor 550 = .ok (.iadd, 1) := dk_96 (dk_at dksX10_readDoor_23 11 rfl rfl)
theorem dX10_readDoor_551 : decode cX10_readDoor 551 = .ok (.istore 6, 2) := dk_54 6 (dk_at dksX10_readDoor_23 12 rfl rfl)
theorem dX10_readDoor_553 : decode cX10_readDoor 553 = .ok (.aload_n 0, 1) := dk_42 (dk_at dksX10_readDoor_23 14 rfl rfl)
theorem dX10_readDoor_554 : decode cX10_readDoor 554 = .ok (.getfield 16, 3) := dk_180 0 16 (dk_at dksX10_readDoor_23 15 rfl rfl)
theorem dX10_readDoor_557 : decode cX10_readDoor 557 = .ok (.sipush 210, 3) := dk_17 0 210 (dk_at dksX10_readDoor_23 18 rfl rfl)
theorem dX10_readDoor_560 : decode cX10_readDoor 560 = .ok (.bipush 10, 2) := dk_16 10 (dk_at dksX10_readDoor_23 21 rfl rfl)
theorem dX10_readDoor_562 : decode cX10_readDoor 562 = .ok (.iload 6, 2) := dk_21 6 (dk_at dksX10_readDoor_24 0 rfl rfl)
theorem dX10_readDoor_564 : decode cX10_readDoor 564 = .ok (.imul, 1) := dk_104 (dk_at dksX10_readDoor_24 2 rfl rfl)
theorem dX10_readDoor_565 : decode cX10_readDoor 565 = .ok (.iadd, 1) := dk_96 (dk_at dksX10_readDoor_24 3 rfl rfl)
theorem dX10_readDoor_566 : decode cX10_readDoor 566 = .ok (.iload 5, 2) := dk_21 5 (dk_at dksX10_readDoor_24 4 rfl rfl)
theorem dX10_readDoor_568 : decode cX10_readDoor 568 = .ok (.iadd, 1) := dk_96 (dk_at dksX10_readDoor_24 6 rfl rfl)
theorem dX10_readDoor_569 : decode cX10_readDoor 569 = .ok (.iload_n 1, 1) := dk_27 (dk_at dksX10_readDoor_24 7 rfl rfl)
theorem dX10_readDoor_570 : decode cX10_readDoor 570 = .ok (.iconst 1, 1) := dk_4 (dk_at dksX10_readDoor_24 8 rfl rfl)
theorem dX10_readDoor_571 : decode cX10_readDoor 571 = .ok (.iadd, 1) := dk_96 (dk_at dksX10_readDoor_24 9 rfl rfl)
theorem dX10_readDoor_572 : decode cX10_readDoor 572 = .ok (.iastore, 1) := dk_79 (dk_at dksX10_readDoor_24 10 rfl rfl)
theorem dX10_readDoor_573 : decode cX10_readDoor 573 = .ok (.iinc 4 1, 3) := dk_132 4 1 (dk_at dksX10_readDoor_24 11 rfl rfl)
theorem dX10_readDoor_576 : decode cX10_readDoor 576 = .ok (.goto (-93), 3) := dk_167 255 163 (dk_at dksX10_readDoor_24 14 rfl rfl)
theorem dX10_readDoor_579 : decode cX10_readDoor 579 = .ok (.aload_n 0, 1) := dk_42 (dk_at dksX10_readDoor_24 17 rfl rfl)
theorem dX10_readDoor_580 : decode cX10_readDoor 580 = .ok (.getfield 16, 3) := dk_180 0 16 (dk_at dksX10_readDoor_24 18 rfl rfl)
theorem dX10_readDoor_583 : decode cX10_readDoor 583 = .ok (.iconst 2, 1) := dk_5 (dk_at dksX10_readDoor_24 21 rfl rfl)
theorem dX10_readDoor_584 : decode cX10_readDoor 584 = .ok (.dup2, 1) := dk_92 (dk_at dksX10_readDoor_24 22 rfl rfl)
theorem dX10_readDoor_585 : decode cX10_readDoor 585 = .ok (.iaload, 1) := dk_46 (dk_at dksX10_readDoor_24 23 rfl rfl)
theorem dX10_readDoor_586 : decode cX10_readDoor 586 = .ok (.iconst 1, 1) := dk_4 (dk_at dksX10_readDoor_25 0 rfl rfl)
theorem dX10_readDoor_587 : decode cX10_readDoor 587 = .ok (.iadd, 1) := dk_96 (dk_at dksX10_readDoor_25 1 rfl rfl)
theorem dX10_readDoor_588 : decode cX10_readDoor 588 = .ok (.iastore, 1) := dk_79 (dk_at dksX10_readDoor_25 2 rfl rfl)
theorem dX10_readDoor_589 : decode cX10_readDoor 589 = .ok (.iconst 1, 1) := dk_4 (dk_at dksX10_readDoor_25 3 rfl rfl)
theorem dX10_readDoor_590 : decode cX10_readDoor 590 = .ok (.ireturn, 1) := dk_172 (dk_at dksX10_readDoor_25 4 rfl rfl)
theorem dn_X10_readDoor : yX10_readDoor.cls ≠ "java/lang/invoke/MethodHandle" ∧ yX10_readDoor.cls ≠ "java/lang/invoke/VarHandle" ∧ (parseMethodDescriptor yX10_readDoor.desc).map (fun d => d.parameters.length) = some 0 := by decide +kernel
noncomputable def M_X10_readDoor  : TM Bool := TM.bind (tA 15 330 2) (fun v1 => if v1 = 10 then TM.bind (M_X10_bad 4) (fun v177 => TM.pure v177) else TM.lv (110 + (10 * v1)) (fun v2 => TM.bind (M_X10_go) (fun v3 => TM.bind (M_X10_isName) (fun v4 => cond v4 (TM.bind (M_X10_findRead) (fun v5 => if v5 = (-1) then TM.bind (tL 12) (fun v6 => TM.bind (sB 19 10 v1 v6) (fun _ => TM.bind (M_X10_go) (fun v7 => TM.bind (tA 15 330 0) (fun v8 => TM.bind (M_X10_readNumber 0 (v8 - 1)) (fun v9 => cond v9 (TM.bind (tI 13) (fun v10 => TM.bind (sA 15 330 (v2 + 0) v10) (fun _ => TM.bind (tA 15 330 1) (fun v11 => TM.bind (M_X10_readNumber 0 (v11 - 1)) (fun v12 => cond v12 (TM.bind (tI 13) (fun v13 => TM.bind (sA 15 330 (v2 + 1) v13) (fun _ => TM.bind (M_X10_isWord 4) (fun v14 => cond v14 (TM.bind (M_X10_isWord 5) (fun v15 => TM.bind ((cond v15 (TM.pure true) (TM.pure false) : TM (Bool))) (fun u16 => TM.bind (sA 15 330 (v2 + 2) (b2i u16)) (fun _ => TM.bind (M_X10_go) (fun v17 => TM.bind (tI 7) (fun v18 => if v18 = 3 then TM.bind (tI 8) (fun v19 => TM.bind (M_X10_isIn v19 1 3) (fun v20 => cond v20 (TM.bind (tA 15 330 (v2 + 0)) (fun v21 => TM.bind (tA 15 330 (v2 + 1)) (fun v22 => TM.bind (tA 15 330 (v2 + 2)) (fun v23 => TM.bind (tI 8) (fun v24 => TM.bind (M_X10_looksAt v21 v22 v23 v24) (fun v25 => if v25 ≤ 0 then TM.bind (tI 8) (fun v26 => TM.bind (sA 15 330 (v2 + 3) v26) (fun _ => TM.bind (M_X10_go) (fun v27 => TM.bind (M_X10_readNumber 0 3) (fun v28 => cond v28 (TM.bind (tI 13) (fun v29 => TM.bind (sA 15 330 (v2 + 4) v29) (fun _ => TM.bind (tI 13) (fun v30 => TM.bind (sA 15 330 (v2 + 5) (1 <<< (v30 &&& 31))) (fun _ => TM.loop (S := Unit) (fun s31 => TM.bind (M_X10_isWord 6) (fun v34 => cond v34 (TM.bind (M_X10_go) (fun v79 => TM.bind (tI 7) (fun v80 => if v80 = 3 then TM.bind (tI 8) (fun v81 => if v81 ≤ 3 then TM.bind (tA 15 330 (v2 + 5)) (fun v82 => TM.bind (tI 8) (fun v83 => TM.bind (M_X10_has v82 v83) (fun v84 => cond v84 (TM.bind (M_X10_bad 3) (fun v88 => TM.pure (Sum.inr v88))) (TM.bind (tA 15 330 (v2 + 5)) (fun v85 => TM.bind (tI 8) (fun v86 => TM.bind (sA 15 330 (v2 + 5) (v85 ||| (1 <<< (v86 &&& 31)))) (fun _ => TM.bind (M_X10_go) (fun v87 => TM.pure (Sum.inl ()))))))))) else TM.bind (M_X10_bad 2) (fun v89 => TM.pure (Sum.inr v89))) else TM.bind (M_X10_bad 1) (fun v90 => TM.pure (Sum.inr v90))))) (TM.bind (sA 15 330 (v2 + 6) 1) (fun _ => TM.bind (M_X10_isWord 7) (fun v35 => cond v35 (TM.bind (M_X10_go) (fun v56 => TM.bind (M_X10_readNumber 1 99) (fun v57 => cond v57 (TM.bind (tI 13) (fun v58 => TM.bind (sA 15 330 (v2 + 6) v58) (fun _ => TM.bind (M_X10_isWord 8) (fun v59 => TM.bind ((cond v59 (TM.pure true) (TM.pure false) : TM (Bool))) (fun u60 => TM.bind (sA 15 330 (v2 + 7) (b2i u60)) (fun _ => TM.bind (M_X10_isWord 8) (fun v61 => TM.bind ((cond v61 (TM.bind (M_X10_go) (fun v78 => TM.pure ())) (TM.pure ()) : TM (Unit))) (fun u62 => TM.bind (TM.loop (S := Int32) (E := Unit) (fun s63 => TM.bind (tA 15 330 (v2 + 3)) (fun v67 => if v67 ≤ s63 then TM.pure (Sum.inr ()) else TM.bind (tA 15 330 (v2 + 0)) (fun v68 => TM.bind (tA 15 330 (v2 + 2)) (fun v69 => TM.bind ((if v69 = 0 then TM.pure s63 else TM.pure 0 : TM (Int32))) (fun u70 => TM.lv (v68 + u70) (fun v71 => TM.bind (tA 15 330 (v2 + 1)) (fun v72 => TM.bind (tA 15 330 (v2 + 2)) (fun v73 => TM.bind ((if v73 = 1 then TM.pure s63 else TM.pure 0 : TM (Int32))) (fun u74 => TM.lv (v72 + u74) (fun v75 => TM.bind (sA 15 330 ((210 + (10 * v75)) + v71) (v1 + 1)) (fun _ => TM.lv (s63 + 1) (fun v76 => TM.pure (Sum.inl v76))))))))))))) 0) (fun e66 => TM.bind (tA 15 330 2) (fun v77 => TM.bind (sA 15 330 2 (v77 + 1)) (fun _ => TM.pure (Sum.inr true)))))))))))) (TM.pure (Sum.inr false))))) (TM.bind (M_X10_isWord 8) (fun v36 => TM.bind ((cond v36 (TM.pure true) (TM.pure false) : TM (Bool))) (fun u37 => TM.bind (sA 15 330 (v2 + 7) (b2i u37)) (fun _ => TM.bind (M_X10_isWord 8) (fun v38 => TM.bind ((cond v38 (TM.bind (M_X10_go) (fun v55 => TM.pure ())) (TM.pure ()) : TM (Unit))) (fun u39 => TM.bind (TM.loop (S := Int32) (E := Unit) (fun s40 => TM.bind (tA 15 330 (v2 + 3)) (fun v44 => if v44 ≤ s40 then TM.pure (Sum.inr ()) else TM.bind (tA 15 330 (v2 + 0)) (fun v45 => TM.bind (tA 15 330 (v2 + 2)) (fun v46 => TM.bind ((if v46 = 0 then TM.pure s40 else TM.pure 0 : TM (Int32))) (fun u47 => TM.lv (v45 + u47) (fun v48 => TM.bind (tA 15 330 (v2 + 1)) (fun v49 => TM.bind (tA 15 330 (v2 + 2)) (fun v50 => TM.bind ((if v50 = 1 then TM.pure s40 else TM.pure 0 : TM (Int32))) (fun u51 => TM.lv (v49 + u51) (fun v52 => TM.bind (sA 15 330 ((210 + (10 * v52)) + v48) (v1 + 1)) (fun _ => TM.lv (s40 + 1) (fun v53 => TM.pure (Sum.inl v53))))))))))))) 0) (fun e43 => TM.bind (tA 15 330 2) (fun v54 => TM.bind (sA 15 330 2 (v54 + 1)) (fun _ => TM.pure (Sum.inr true))))))))))))))) ()))))) (TM.pure false))))) else TM.bind (M_X10_bad v25) (fun v91 => TM.pure v91))))))) (TM.bind (M_X10_bad 2) (fun v92 => TM.pure v92)))) else TM.bind (M_X10_bad 1) (fun v93 => TM.pure v93))))))) (TM.bind (M_X10_isWord 5) (fun v94 => cond v94 (TM.bind (M_X10_isWord 5) (fun v95 => TM.bind ((cond v95 (TM.pure true) (TM.pure false) : TM (Bool))) (fun u96 => TM.bind (sA 15 330 (v2 + 2) (b2i u96)) (fun _ => TM.bind (M_X10_go) (fun v97 => TM.bind (tI 7) (fun v98 => if v98 = 3 then TM.bind (tI 8) (fun v99 => TM.bind (M_X10_isIn v99 1 3) (fun v100 => cond v100 (TM.bind (tA 15 330 (v2 + 0)) (fun v101 => TM.bind (tA 15 330 (v2 + 1)) (fun v102 => TM.bind (tA 15 330 (v2 + 2)) (fun v103 => TM.bind (tI 8) (fun v104 => TM.bind (M_X10_looksAt v101 v102 v103 v104) (fun v105 => if v105 ≤ 0 then TM.bind (tI 8) (fun v106 => TM.bind (sA 15 330 (v2 + 3) v106) (fun _ => TM.bind (M_X10_go) (fun v107 => TM.bind (M_X10_readNumber 0 3) (fun v108 => cond v108 (TM.bind (tI 13) (fun v109 => TM.bind (sA 15 330 (v2 + 4) v109) (fun _ => TM.bind (tI 13) (fun v110 => TM.bind (sA 15 330 (v2 + 5) (1 <<< (v110 &&& 31))) (fun _ => TM.loop (S := Unit) (fun s111 => TM.bind (M_X10_isWord 6) (fun v114 => cond v114 (TM.bind (M_X10_go) (fun v159 => TM.bind (tI 7) (fun v160 => if v160 = 3 then TM.bind (tI 8) (fun v161 => if v161 ≤ 3 then TM.bind (tA 15 330 (v2 + 5)) (fun v162 => TM.bind (tI 8) (fun v163 => TM.bind (M_X10_has v162 v163) (fun v164 => cond v164 (TM.bind (M_X10_bad 3) (fun v168 => TM.pure (Sum.inr v168))) (TM.bind (tA 15 330 (v2 + 5)) (fun v165 => TM.bind (tI 8) (fun v166 => TM.bind (sA 15 330 (v2 + 5) (v165 ||| (1 <<< (v166 &&& 31)))) (fun _ => TM.bind (M_X10_go) (fun v167 => TM.pure (Sum.inl ()))))))))) else TM.bind (M_X10_bad 2) (fun v169 => TM.pure (Sum.inr v169))) else TM.bind (M_X10_bad 1) (fun v170 => TM.pure (Sum.inr v170))))) (TM.bind (sA 15 330 (v2 + 6) 1) (fun _ => TM.bind (M_X10_isWord 7) (fun v115 => cond v115 (TM.bind (M_X10_go) (fun v136 => TM.bind (M_X10_readNumber 1 99) (fun v137 => cond v137 (TM.bind (tI 13) (fun v138 => TM.bind (sA 15 330 (v2 + 6) v138) (fun _ => TM.bind (M_X10_isWord 8) (fun v139 => TM.bind ((cond v139 (TM.pure true) (TM.pure false) : TM (Bool))) (fun u140 => TM.bind (sA 15 330 (v2 + 7) (b2i u140)) (fun _ => TM.bind (M_X10_isWord 8) (fun v141 => TM.bind ((cond v141 (TM.bind (M_X10_go) (fun v158 => TM.pure ())) (TM.pure ()) : TM (Unit))) (fun u142 => TM.bind (TM.loop (S := Int32) (E := Unit) (fun s143 => TM.bind (tA 15 330 (v2 + 3)) (fun v147 => if v147 ≤ s143 then TM.pure (Sum.inr ()) else TM.bind (tA 15 330 (v2 + 0)) (fun v148 => TM.bind (tA 15 330 (v2 + 2)) (fun v149 => TM.bind ((if v149 = 0 then TM.pure s143 else TM.pure 0 : TM (Int32))) (fun u150 => TM.lv (v148 + u150) (fun v151 => TM.bind (tA 15 330 (v2 + 1)) (fun v152 => TM.bind (tA 15 330 (v2 + 2)) (fun v153 => TM.bind ((if v153 = 1 then TM.pure s143 else TM.pure 0 : TM (Int32))) (fun u154 => TM.lv (v152 + u154) (fun v155 => TM.bind (sA 15 330 ((210 + (10 * v155)) + v151) (v1 + 1)) (fun _ => TM.lv (s143 + 1) (fun v156 => TM.pure (Sum.inl v156))))))))))))) 0) (fun e146 => TM.bind (tA 15 330 2) (fun v157 => TM.bind (sA 15 330 2 (v157 + 1)) (fun _ => TM.pure (Sum.inr true)))))))))))) (TM.pure (Sum.inr false))))) (TM.bind (M_X10_isWord 8) (fun v116 => TM.bind ((cond v116 (TM.pure true) (TM.pure false) : TM (Bool))) (fun u117 => TM.bind (sA 15 330 (v2 + 7) (b2i u117)) (fun _ => TM.bind (M_X10_isWord 8) (fun v118 => TM.bind ((cond v118 (TM.bind (M_X10_go) (fun v135 => TM.pure ())) (TM.pure ()) : TM (Unit))) (fun u119 => TM.bind (TM.loop (S := Int32) (E := Unit) (fun s120 => TM.bind (tA 15 330 (v2 + 3)) (fun v124 => if v124 ≤ s120 then TM.pure (Sum.inr ()) else TM.bind (tA 15 330 (v2 + 0)) (fun v125 => TM.bind (tA 15 330 (v2 + 2)) (fun v126 => TM.bind ((if v126 = 0 then TM.pure s120 else TM.pure 0 : TM (Int32))) (fun u127 => TM.lv (v125 + u127) (fun v128 => TM.bind (tA 15 330 (v2 + 1)) (fun v129 => TM.bind (tA 15 330 (v2 + 2)) (fun v130 => TM.bind ((if v130 = 1 then TM.pure s120 else TM.pure 0 : TM (Int32))) (fun u131 => TM.lv (v129 + u131) (fun v132 => TM.bind (sA 15 330 ((210 + (10 * v132)) + v128) (v1 + 1)) (fun _ => TM.lv (s120 + 1) (fun v133 => TM.pure (Sum.inl v133))))))))))))) 0) (fun e123 => TM.bind (tA 15 330 2) (fun v134 => TM.bind (sA 15 330 2 (v134 + 1)) (fun _ => TM.pure (Sum.inr true))))))))))))))) ()))))) (TM.pure false))))) else TM.bind (M_X10_bad v105) (fun v171 => TM.pure v171))))))) (TM.bind (M_X10_bad 2) (fun v172 => TM.pure v172)))) else TM.bind (M_X10_bad 1) (fun v173 => TM.pure v173))))))) (TM.bind (M_X10_bad 1) (fun v174 => TM.pure v174)))))))) (TM.pure false)))))) (TM.pure false)))))) else TM.bind (M_X10_bad 3) (fun v175 => TM.pure v175))) (TM.bind (M_X10_bad 1) (fun v176 => TM.pure v176))))))
set_option maxHeartbeats 4000000 in
theorem ct_X10_readDoor (G : gG) (am : Nat)  : gCtM G am yX10_readDoor cX10_readDoor 7 (some .boolean) 3 67 [.ref am] (M_X10_readDoor) (fun x : Bool => some (.int (b2i x))) := by
  refine gCtM.of (by decide) (Nat.le_of_ble_eq_true rfl) (fun K hn ms ms' r hG X hK hd ho => ?_)
  subst hG
  have X : gX K cX10_readDoor 7 "BitingDoorsModel" "readDoor" (some .boolean) 3 67 := X
  show V K 7 (mkM am hn ms) 0 [(0, .ref am)] []
  unfold M_X10_readDoor at hd
  refine v_aload_n X dX10_readDoor_0 0 0 rfl rfl ?_
  refine t_getA (j := 2) X rfl fl_X10_16 dX10_readDoor_1 ?_
  refine v_iconst (v := 2) X dX10_readDoor_4 (by decide) ?_
  refine t_iald (j := 2) X hd rfl dX10_readDoor_5 (fun v1 hd => ?_)
  refine v_istore_n (lv2 := [(1, .int v1), (0, .ref am)]) X dX10_readDoor_6 1 rfl (by decide) rfl ?_
  refine v_iload_n X dX10_readDoor_7 0 1 rfl rfl ?_
  refine v_bipush (v := 10) X dX10_readDoor_8 (by decide) ?_
  refine v_icmp_ne (tgt := 19) X dX10_readDoor_10 (by decide) (fun q => ?_) (fun q => ?_)
  · have hd := Tite_f q hd
    refine v_bipush (v := 110) X dX10_readDoor_19 (by decide) ?_
    refine v_bipush (v := 10) X dX10_readDoor_21 (by decide) ?_
    refine v_iload_n X dX10_readDoor_23 0 1 rfl rfl ?_
    refine v_imul X dX10_readDoor_24 ?_
    refine v_iadd X dX10_readDoor_25 ?_
    refine t_lvI hd (fun v2 hd => ?_)
    refine v_istore_n (lv2 := [(2, .int v2), (1, .int v1), (0, .ref am)]) X dX10_readDoor_26 2 rfl (by decide) rfl ?_
    refine v_aload_n X dX10_readDoor_27 2 0 rfl rfl ?_
    refine t_callV X hK hd (ct_X10_go _ am) (lw_V q1876 q1878 qs39 q120 q1879) ⟨rfl, dn_X10_go⟩ rfl ⟨by decide, by decide⟩ rfl (Nat.le_of_ble_eq_true rfl) dX10_readDoor_28 (fun v3 ms hd => ?_)
    show V K 7 (mkM am hn ms) 31 [(2, .int v2), (1, .int v1), (0, .ref am)] []
    refine v_aload_n X dX10_readDoor_31 2 0 rfl rfl ?_
    refine t_callV X hK hd (ct_X10_isName _ am) (lw_V q1928 q1930 qs47 q120 q1931) ⟨rfl, dn_X10_isName⟩ rfl ⟨by decide, by decide⟩ rfl (Nat.le_of_ble_eq_true rfl) dX10_readDoor_32 (fun v4 ms hd => ?_)
    show V K 7 (mkM am hn ms) 35 [(2, .int v2), (1, .int v1), (0, .ref am)] [.int (b2i v4)]
    refine v_ifZ_ne (tgt := 44) X dX10_readDoor_35 (by decide) (fun q => ?_) (fun q => ?_)
    · have hd := Tcnd_t q hd
      refine v_aload_n X dX10_readDoor_44 2 0 rfl rfl ?_
      refine t_callV X hK hd (ct_X10_findRead _ am) (lw_V q1932 q1934 qs48 q120 q1935) ⟨rfl, dn_X10_findRead⟩ rfl ⟨by decide, by decide⟩ rfl (Nat.le_of_ble_eq_true rfl) dX10_readDoor_45 (fun v5 ms hd => ?_)
      show V K 7 (mkM am hn ms) 48 [(2, .int v2), (1, .int v1), (0, .ref am)] [.int v5]
      refine v_iconst (v := (-1)) X dX10_readDoor_48 (by decide) ?_
      refine v_icmp_eq (tgt := 58) X dX10_readDoor_49 (by decide) (fun q => ?_) (fun q => ?_)
      · have hd := Tite_t q hd
        refine v_aload_n X dX10_readDoor_58 2 0 rfl rfl ?_
        refine t_getA (j := 6) X rfl fl_X10_29 dX10_readDoor_59 ?_
        refine v_iload_n X dX10_readDoor_62 1 1 rfl rfl ?_
        refine v_aload_n X dX10_readDoor_63 2 0 rfl rfl ?_
        refine t_getL X hd rfl fl_X10_144 dX10_readDoor_64 (fun v6 hd => ?_)
        refine t_last (j := 6) X hd rfl dX10_readDoor_67 (fun ms hd => ?_)
        refine v_aload_n X dX10_readDoor_68 2 0 rfl rfl ?_
        refine t_callV X hK hd (ct_X10_go _ am) (lw_V q1876 q1878 qs39 q120 q1879) ⟨rfl, dn_X10_go⟩ rfl ⟨by decide, by decide⟩ rfl (Nat.le_of_ble_eq_true rfl) dX10_readDoor_69 (fun v7 ms hd => ?_)
        show V K 7 (mkM am hn ms) 72 [(2, .int v2), (1, .int v1), (0, .ref am)] []
        refine v_aload_n X dX10_readDoor_72 2 0 rfl rfl ?_
        refine v_iconst (v := 0) X dX10_readDoor_73 (by decide) ?_
        refine v_aload_n X dX10_readDoor_74 2 0 rfl rfl ?_
        refine t_getA (j := 2) X rfl fl_X10_16 dX10_readDoor_75 ?_
        refine v_iconst (v := 0) X dX10_readDoor_78 (by decide) ?_
        refine t_iald (j := 2) X hd rfl dX10_readDoor_79 (fun v8 hd => ?_)
        refine v_iconst (v := 1) X dX10_readDoor_80 (by decide) ?_
        refine v_isub X dX10_readDoor_81 ?_
        refine t_callV X hK hd (ct_X10_readNumber _ am 0 (v8 - 1)) (lw_V q1936 q1938 qs49 q120 q1939) ⟨rfl, dn_X10_readNumber⟩ rfl ⟨by decide, by decide⟩ rfl (Nat.le_of_ble_eq_true rfl) dX10_readDoor_82 (fun v9 ms hd => ?_)
        show V K 7 (mkM am hn ms) 85 [(2, .int v2), (1, .int v1), (0, .ref am)] [.int (b2i v9)]
        refine v_ifZ_ne (tgt := 90) X dX10_readDoor_85 (by decide) (fun q => ?_) (fun q => ?_)
        · have hd := Tcnd_t q hd
          refine v_aload_n X dX10_readDoor_90 2 0 rfl rfl ?_
          refine t_getA (j := 2) X rfl fl_X10_16 dX10_readDoor_91 ?_
          refine v_iload_n X dX10_readDoor_94 0 2 rfl rfl ?_
          refine v_iconst (v := 0) X dX10_readDoor_95 (by decide) ?_
          refine v_iadd X dX10_readDoor_96 ?_
          refine v_aload_n X dX10_readDoor_97 2 0 rfl rfl ?_
          refine t_getI X hd rfl fl_X10_191 dX10_readDoor_98 (fun v10 hd => ?_)
          refine t_iast (j := 2) X hd rfl dX10_readDoor_101 (fun ms hd => ?_)
          refine v_aload_n X dX10_readDoor_102 2 0 rfl rfl ?_
          refine v_iconst (v := 0) X dX10_readDoor_103 (by decide) ?_
          refine v_aload_n X dX10_readDoor_104 2 0 rfl rfl ?_
          refine t_getA (j := 2) X rfl fl_X10_16 dX10_readDoor_105 ?_
          refine v_iconst (v := 1) X dX10_readDoor_108 (by decide) ?_
          refine t_iald (j := 2) X hd rfl dX10_readDoor_109 (fun v11 hd => ?_)
          refine v_iconst (v := 1) X dX10_readDoor_110 (by decide) ?_
          refine v_isub X dX10_readDoor_111 ?_
          refine t_callV X hK hd (ct_X10_readNumber _ am 0 (v11 - 1)) (lw_V q1936 q1938 qs49 q120 q1939) ⟨rfl, dn_X10_readNumber⟩ rfl ⟨by decide, by decide⟩ rfl (Nat.le_of_ble_eq_true rfl) dX10_readDoor_112 (fun v12 ms hd => ?_)
          show V K 7 (mkM am hn ms) 115 [(2, .int v2), (1, .int v1), (0, .ref am)] [.int (b2i v12)]
          refine v_ifZ_ne (tgt := 120) X dX10_readDoor_115 (by decide) (fun q => ?_) (fun q => ?_)
          · have hd := Tcnd_t q hd
            refine v_aload_n X dX10_readDoor_120 2 0 rfl rfl ?_
            refine t_getA (j := 2) X rfl fl_X10_16 dX10_readDoor_121 ?_
            refine v_iload_n X dX10_readDoor_124 0 2 rfl rfl ?_
            refine v_iconst (v := 1) X dX10_readDoor_125 (by decide) ?_
            refine v_iadd X dX10_readDoor_126 ?_
            refine v_aload_n X dX10_readDoor_127 2 0 rfl rfl ?_
            refine t_getI X hd rfl fl_X10_191 dX10_readDoor_128 (fun v13 hd => ?_)
            refine t_iast (j := 2) X hd rfl dX10_readDoor_131 (fun ms hd => ?_)
            refine v_aload_n X dX10_readDoor_132 2 0 rfl rfl ?_
            refine v_iconst (v := 4) X dX10_readDoor_133 (by decide) ?_
            refine t_callV X hK hd (ct_X10_isWord _ am 4) (lw_V q1896 q1898 qs42 q120 q1899) ⟨rfl, dn_X10_isWord⟩ rfl ⟨by decide, by decide⟩ rfl (Nat.le_of_ble_eq_true rfl) dX10_readDoor_134 (fun v14 ms hd => ?_)
            show V K 7 (mkM am hn ms) 137 [(2, .int v2), (1, .int v1), (0, .ref am)] [.int (b2i v14)]
            refine v_ifZ_ne (tgt := 154) X dX10_readDoor_137 (by decide) (fun q => ?_) (fun q => ?_)
            · have hd := Tcnd_t q hd
              refine v_aload_n X dX10_readDoor_154 2 0 rfl rfl ?_
              refine t_getA (j := 2) X rfl fl_X10_16 dX10_readDoor_155 ?_
              refine v_iload_n X dX10_readDoor_158 0 2 rfl rfl ?_
              refine v_iconst (v := 2) X dX10_readDoor_159 (by decide) ?_
              refine v_iadd X dX10_readDoor_160 ?_
              refine v_aload_n X dX10_readDoor_161 2 0 rfl rfl ?_
              refine v_iconst (v := 5) X dX10_readDoor_162 (by decide) ?_
              refine t_callV X hK hd (ct_X10_isWord _ am 5) (lw_V q1896 q1898 qs42 q120 q1899) ⟨rfl, dn_X10_isWord⟩ rfl ⟨by decide, by decide⟩ rfl (Nat.le_of_ble_eq_true rfl) dX10_readDoor_163 (fun v15 ms hd => ?_)
              show V K 7 (mkM am hn ms) 166 [(2, .int v2), (1, .int v1), (0, .ref am)] [.int (b2i v15), .int (v2 + 2), .ref (am + (2 + 1))]
              obtain ⟨u16, m1, hd, hd2⟩ := TM.bind_some hd
              have KJ : V K 7 (mkM am hn m1) 174 [(0, .ref am), (1, .int v1), (2, .int v2)] [.int (b2i u16), .int (v2 + 2), .ref (am + (2 + 1))] := by
                clear hd
                have hd := hd2
                refine t_iast (j := 2) X hd rfl dX10_readDoor_174 (fun ms hd => ?_)
                refine v_aload_n X dX10_readDoor_175 0 0 rfl rfl ?_
                refine t_callV X hK hd (ct_X10_go _ am) (lw_V q1876 q1878 qs39 q120 q1879) ⟨rfl, dn_X10_go⟩ rfl ⟨by decide, by decide⟩ rfl (Nat.le_of_ble_eq_true rfl) dX10_readDoor_176 (fun v17 ms hd => ?_)
                show V K 7 (mkM am hn ms) 179 [(0, .ref am), (1, .int v1), (2, .int v2)] []
                refine v_aload_n X dX10_readDoor_179 0 0 rfl rfl ?_
                refine t_getI X hd rfl fl_X10_131 dX10_readDoor_180 (fun v18 hd => ?_)
                refine v_iconst (v := 3) X dX10_readDoor_183 (by decide) ?_
                refine v_icmp_eq (tgt := 193) X dX10_readDoor_184 (by decide) (fun q => ?_) (fun q => ?_)
                · have hd := Tite_t q hd
                  refine v_aload_n X dX10_readDoor_193 0 0 rfl rfl ?_
                  refine t_getI X hd rfl fl_X10_148 dX10_readDoor_194 (fun v19 hd => ?_)
                  refine v_iconst (v := 1) X dX10_readDoor_197 (by decide) ?_
                  refine v_iconst (v := 3) X dX10_readDoor_198 (by decide) ?_
                  refine t_callS X hK hd (ct_X10_isIn _ am v19 1 3) (lw_S q1940 q1941 q120 q1942) dn_X10_isIn rfl ⟨by decide, by decide⟩ rfl (Nat.le_of_ble_eq_true rfl) dX10_readDoor_199 (fun v20 ms hd => ?_)
                  show V K 7 (mkM am hn ms) 202 [(0, .ref am), (1, .int v1), (2, .int v2)] [.int (b2i v20)]
                  refine v_ifZ_ne (tgt := 211) X dX10_readDoor_202 (by decide) (fun q => ?_) (fun q => ?_)
                  · have hd := Tcnd_t q hd
                    refine v_aload_n X dX10_readDoor_211 0 0 rfl rfl ?_
                    refine v_aload_n X dX10_readDoor_212 0 0 rfl rfl ?_
                    refine t_getA (j := 2) X rfl fl_X10_16 dX10_readDoor_213 ?_
                    refine v_iload_n X dX10_readDoor_216 2 2 rfl rfl ?_
                    refine v_iconst (v := 0) X dX10_readDoor_217 (by decide) ?_
                    refine v_iadd X dX10_readDoor_218 ?_
                    refine t_iald (j := 2) X hd rfl dX10_readDoor_219 (fun v21 hd => ?_)
                    refine v_aload_n X dX10_readDoor_220 0 0 rfl rfl ?_
                    refine t_getA (j := 2) X rfl fl_X10_16 dX10_readDoor_221 ?_
                    refine v_iload_n X dX10_readDoor_224 2 2 rfl rfl ?_
                    refine v_iconst (v := 1) X dX10_readDoor_225 (by decide) ?_
                    refine v_iadd X dX10_readDoor_226 ?_
                    refine t_iald (j := 2) X hd rfl dX10_readDoor_227 (fun v22 hd => ?_)
                    refine v_aload_n X dX10_readDoor_228 0 0 rfl rfl ?_
                    refine t_getA (j := 2) X rfl fl_X10_16 dX10_readDoor_229 ?_
                    refine v_iload_n X dX10_readDoor_232 2 2 rfl rfl ?_
                    refine v_iconst (v := 2) X dX10_readDoor_233 (by decide) ?_
                    refine v_iadd X dX10_readDoor_234 ?_
                    refine t_iald (j := 2) X hd rfl dX10_readDoor_235 (fun v23 hd => ?_)
                    refine v_aload_n X dX10_readDoor_236 0 0 rfl rfl ?_
                    refine t_getI X hd rfl fl_X10_148 dX10_readDoor_237 (fun v24 hd => ?_)
                    refine t_callV X hK hd (ct_X10_looksAt _ am v21 v22 v23 v24) (lw_V q1943 q1945 qs50 q120 q1946) ⟨rfl, dn_X10_looksAt⟩ rfl ⟨by decide, by decide⟩ rfl (Nat.le_of_ble_eq_true rfl) dX10_readDoor_240 (fun v25 ms hd => ?_)
                    show V K 7 (mkM am hn ms) 243 [(0, .ref am), (1, .int v1), (2, .int v2)] [.int v25]
                    refine v_istore_n (lv2 := [(3, .int v25), (0, .ref am), (1, .int v1), (2, .int v2)]) X dX10_readDoor_243 3 rfl (by decide) rfl ?_
                    refine v_iload_n X dX10_readDoor_244 0 3 rfl rfl ?_
                    refine v_if_le (tgt := 254) X dX10_readDoor_245 (by decide) (fun q => ?_) (fun q => ?_)
                    · have hd := Tite_t q hd
                      refine v_aload_n X dX10_readDoor_254 1 0 rfl rfl ?_
                      refine t_getA (j := 2) X rfl fl_X10_16 dX10_readDoor_255 ?_
                      refine v_iload_n X dX10_readDoor_258 3 2 rfl rfl ?_
                      refine v_iconst (v := 3) X dX10_readDoor_259 (by decide) ?_
                      refine v_iadd X dX10_readDoor_260 ?_
                      refine v_aload_n X dX10_readDoor_261 1 0 rfl rfl ?_
                      refine t_getI X hd rfl fl_X10_148 dX10_readDoor_262 (fun v26 hd => ?_)
                      refine t_iast (j := 2) X hd rfl dX10_readDoor_265 (fun ms hd => ?_)
                      refine v_aload_n X dX10_readDoor_266 1 0 rfl rfl ?_
                      refine t_callV X hK hd (ct_X10_go _ am) (lw_V q1876 q1878 qs39 q120 q1879) ⟨rfl, dn_X10_go⟩ rfl ⟨by decide, by decide⟩ rfl (Nat.le_of_ble_eq_true rfl) dX10_readDoor_267 (fun v27 ms hd => ?_)
                      show V K 7 (mkM am hn ms) 270 [(3, .int v25), (0, .ref am), (1, .int v1), (2, .int v2)] []
                      refine v_aload_n X dX10_readDoor_270 1 0 rfl rfl ?_
                      refine v_iconst (v := 0) X dX10_readDoor_271 (by decide) ?_
                      refine v_iconst (v := 3) X dX10_readDoor_272 (by decide) ?_
                      refine t_callV X hK hd (ct_X10_readNumber _ am 0 3) (lw_V q1936 q1938 qs49 q120 q1939) ⟨rfl, dn_X10_readNumber⟩ rfl ⟨by decide, by decide⟩ rfl (Nat.le_of_ble_eq_true rfl) dX10_readDoor_273 (fun v28 ms hd => ?_)
                      show V K 7 (mkM am hn ms) 276 [(3, .int v25), (0, .ref am), (1, .int v1), (2, .int v2)] [.int (b2i v28)]
                      refine v_ifZ_ne (tgt := 281) X dX10_readDoor_276 (by decide) (fun q => ?_) (fun q => ?_)
                      · have hd := Tcnd_t q hd
                        refine v_aload_n X dX10_readDoor_281 1 0 rfl rfl ?_
                        refine t_getA (j := 2) X rfl fl_X10_16 dX10_readDoor_282 ?_
                        refine v_iload_n X dX10_readDoor_285 3 2 rfl rfl ?_
                        refine v_iconst (v := 4) X dX10_readDoor_286 (by decide) ?_
                        refine v_iadd X dX10_readDoor_287 ?_
                        refine v_aload_n X dX10_readDoor_288 1 0 rfl rfl ?_
                        refine t_getI X hd rfl fl_X10_191 dX10_readDoor_289 (fun v29 hd => ?_)
                        refine t_iast (j := 2) X hd rfl dX10_readDoor_292 (fun ms hd => ?_)
                        refine v_aload_n X dX10_readDoor_293 1 0 rfl rfl ?_
                        refine t_getA (j := 2) X rfl fl_X10_16 dX10_readDoor_294 ?_
                        refine v_iload_n X dX10_readDoor_297 3 2 rfl rfl ?_
                        refine v_iconst (v := 5) X dX10_readDoor_298 (by decide) ?_
                        refine v_iadd X dX10_readDoor_299 ?_
                        refine v_iconst (v := 1) X dX10_readDoor_300 (by decide) ?_
                        refine v_aload_n X dX10_readDoor_301 1 0 rfl rfl ?_
                        refine t_getI X hd rfl fl_X10_191 dX10_readDoor_302 (fun v30 hd => ?_)
                        refine v_ishl X dX10_readDoor_305 ?_
                        refine t_iast (j := 2) X hd rfl dX10_readDoor_306 (fun ms hd => ?_)
                        refine v_loc [1, 2, 3] rfl ?_
                        refine Tloop_ind hd (fun (s31 : Unit) m => V K 7 (mkM am hn m) 307 [(0, .ref am), (1, .int v1), (2, .int v2)] []) (fun s31 ms x m2 hd ih32 ho33 => ?_)
                        refine v_aload_n X dX10_readDoor_307 0 0 rfl rfl ?_
                        refine v_bipush (v := 6) X dX10_readDoor_308 (by decide) ?_
                        refine t_callV X hK hd (ct_X10_isWord _ am 6) (lw_V q1896 q1898 qs42 q120 q1899) ⟨rfl, dn_X10_isWord⟩ rfl ⟨by decide, by decide⟩ rfl (Nat.le_of_ble_eq_true rfl) dX10_readDoor_310 (fun v34 ms hd => ?_)
                        show V K 7 (mkM am hn ms) 313 [(0, .ref am), (1, .int v1), (2, .int v2)] [.int (b2i v34)]
                        refine v_ifZ_eq (tgt := 396) X dX10_readDoor_313 (by decide) (fun q => ?_) (fun q => ?_)
                        · have hd := Tcnd_f q hd
                          refine v_aload_n X dX10_readDoor_396 0 0 rfl rfl ?_
                          refine t_getA (j := 2) X rfl fl_X10_16 dX10_readDoor_397 ?_
                          refine v_iload_n X dX10_readDoor_400 2 2 rfl rfl ?_
                          refine v_bipush (v := 6) X dX10_readDoor_401 (by decide) ?_
                          refine v_iadd X dX10_readDoor_403 ?_
                          refine v_iconst (v := 1) X dX10_readDoor_404 (by decide) ?_
                          refine t_iast (j := 2) X hd rfl dX10_readDoor_405 (fun ms hd => ?_)
                          refine v_aload_n X dX10_readDoor_406 0 0 rfl rfl ?_
                          refine v_bipush (v := 7) X dX10_readDoor_407 (by decide) ?_
                          refine t_callV X hK hd (ct_X10_isWord _ am 7) (lw_V q1896 q1898 qs42 q120 q1899) ⟨rfl, dn_X10_isWord⟩ rfl ⟨by decide, by decide⟩ rfl (Nat.le_of_ble_eq_true rfl) dX10_readDoor_409 (fun v35 ms hd => ?_)
                          show V K 7 (mkM am hn ms) 412 [(0, .ref am), (1, .int v1), (2, .int v2)] [.int (b2i v35)]
                          refine v_ifZ_eq (tgt := 444) X dX10_readDoor_412 (by decide) (fun q => ?_) (fun q => ?_)
                          · have hd := Tcnd_f q hd
                            refine v_aload_n X dX10_readDoor_444 0 0 rfl rfl ?_
                            refine t_getA (j := 2) X rfl fl_X10_16 dX10_readDoor_445 ?_
                            refine v_iload_n X dX10_readDoor_448 2 2 rfl rfl ?_
                            refine v_bipush (v := 7) X dX10_readDoor_449 (by decide) ?_
                            refine v_iadd X dX10_readDoor_451 ?_
                            refine v_aload_n X dX10_readDoor_452 0 0 rfl rfl ?_
                            refine v_bipush (v := 8) X dX10_readDoor_453 (by decide) ?_
                            refine t_callV X hK hd (ct_X10_isWord _ am 8) (lw_V q1896 q1898 qs42 q120 q1899) ⟨rfl, dn_X10_isWord⟩ rfl ⟨by decide, by decide⟩ rfl (Nat.le_of_ble_eq_true rfl) dX10_readDoor_455 (fun v36 ms hd => ?_)
                            show V K 7 (mkM am hn ms) 458 [(0, .ref am), (1, .int v1), (2, .int v2)] [.int (b2i v36), .int (v2 + 7), .ref (am + (2 + 1))]
                            obtain ⟨u37, m1, hd, hd2⟩ := TM.bind_some hd
                            have KJ : V K 7 (mkM am hn m1) 466 [(0, .ref am), (1, .int v1), (2, .int v2)] [.int (b2i u37), .int (v2 + 7), .ref (am + (2 + 1))] := by
                              clear hd
                              have hd := hd2
                              refine t_iast (j := 2) X hd rfl dX10_readDoor_466 (fun ms hd => ?_)
                              refine v_aload_n X dX10_readDoor_467 0 0 rfl rfl ?_
                              refine v_bipush (v := 8) X dX10_readDoor_468 (by decide) ?_
                              refine t_callV X hK hd (ct_X10_isWord _ am 8) (lw_V q1896 q1898 qs42 q120 q1899) ⟨rfl, dn_X10_isWord⟩ rfl ⟨by decide, by decide⟩ rfl (Nat.le_of_ble_eq_true rfl) dX10_readDoor_470 (fun v38 ms hd => ?_)
                              show V K 7 (mkM am hn ms) 473 [(0, .ref am), (1, .int v1), (2, .int v2)] [.int (b2i v38)]
                              obtain ⟨u39, m1, hd, hd2⟩ := TM.bind_some hd
                              have KJ : V K 7 (mkM am hn m1) 480 [(0, .ref am), (1, .int v1), (2, .int v2)] [] := by
                                clear hd
                                have hd := hd2
                                refine v_iconst (v := 0) X dX10_readDoor_480 (by decide) ?_
                                refine v_istore (lv2 := [(4, .int 0), (0, .ref am), (1, .int v1), (2, .int v2)]) X dX10_readDoor_481 (by decide) rfl ?_
                                obtain ⟨e43, m1, hd, hd2⟩ := TM.bind_some hd
                                have KX : V K 7 (mkM am hn m1) 579 [(0, .ref am)] [] := by
                                  clear hd
                                  have hd := hd2
                                  refine v_aload_n X dX10_readDoor_579 0 0 rfl rfl ?_
                                  refine t_getA (j := 2) X rfl fl_X10_16 dX10_readDoor_580 ?_
                                  refine v_iconst (v := 2) X dX10_readDoor_583 (by decide) ?_
                                  refine v_dup2 X dX10_readDoor_584 rfl rfl ?_
                                  refine t_iald (j := 2) X hd rfl dX10_readDoor_585 (fun v54 hd => ?_)
                                  refine v_iconst (v := 1) X dX10_readDoor_586 (by decide) ?_
                                  refine v_iadd X dX10_readDoor_587 ?_
                                  refine t_iast (j := 2) X hd rfl dX10_readDoor_588 (fun ms hd => ?_)
                                  refine v_iconst (v := 1) X dX10_readDoor_589 (by decide) ?_
                                  have hd := Tlp_out hd ho33
                                  exact t_zret X hK hd rfl ho dX10_readDoor_590
                                clear hd2
                                refine v_loc [1, 2, 3, 0] rfl ?_
                                refine Tloop_ind hd (fun (s40 : Int32) m => V K 7 (mkM am hn m) 483 [(0, .ref am), (1, .int v1), (2, .int v2), (4, .int s40)] []) (fun s40 ms x m2 hd ih41 ho42 => ?_)
                                refine v_iload X dX10_readDoor_483 3 rfl ?_
                                refine v_aload_n X dX10_readDoor_485 0 0 rfl rfl ?_
                                refine t_getA (j := 2) X rfl fl_X10_16 dX10_readDoor_486 ?_
                                refine v_iload_n X dX10_readDoor_489 2 2 rfl rfl ?_
                                refine v_iconst (v := 3) X dX10_readDoor_490 (by decide) ?_
                                refine v_iadd X dX10_readDoor_491 ?_
                                refine t_iald (j := 2) X hd rfl dX10_readDoor_492 (fun v44 hd => ?_)
                                refine v_icmp_ge (tgt := 579) X dX10_readDoor_493 (by decide) (fun q => ?_) (fun q => ?_)
                                · have hd := Tite_t q hd
                                  exact v_loc [0] rfl (t_at (P := fun (e43 : Unit) m => V K 7 (mkM am hn m) 579 [(0, .ref am)] []) (Tlp_out hd ho42) KX)
                                · have hd := Tite_f q hd
                                  refine v_aload_n X dX10_readDoor_496 0 0 rfl rfl ?_
                                  refine t_getA (j := 2) X rfl fl_X10_16 dX10_readDoor_497 ?_
                                  refine v_iload_n X dX10_readDoor_500 2 2 rfl rfl ?_
                                  refine v_iconst (v := 0) X dX10_readDoor_501 (by decide) ?_
                                  refine v_iadd X dX10_readDoor_502 ?_
                                  refine t_iald (j := 2) X hd rfl dX10_readDoor_503 (fun v45 hd => ?_)
                                  refine v_aload_n X dX10_readDoor_504 0 0 rfl rfl ?_
                                  refine t_getA (j := 2) X rfl fl_X10_16 dX10_readDoor_505 ?_
                                  refine v_iload_n X dX10_readDoor_508 2 2 rfl rfl ?_
                                  refine v_iconst (v := 2) X dX10_readDoor_509 (by decide) ?_
                                  refine v_iadd X dX10_readDoor_510 ?_
                                  refine t_iald (j := 2) X hd rfl dX10_readDoor_511 (fun v46 hd => ?_)
                                  obtain ⟨u47, m1, hd, hd2⟩ := TM.bind_some hd
                                  have KJ : V K 7 (mkM am hn m1) 521 [(0, .ref am), (1, .int v1), (2, .int v2), (4, .int s40)] [.int u47, .int v45] := by
                                    clear hd
                                    have hd := hd2
                                    refine v_iadd X dX10_readDoor_521 ?_
                                    refine t_lvI hd (fun v48 hd => ?_)
                                    refine v_istore (lv2 := [(5, .int v48), (0, .ref am), (1, .int v1), (2, .int v2), (4, .int s40)]) X dX10_readDoor_522 (by decide) rfl ?_
                                    refine v_aload_n X dX10_readDoor_524 1 0 rfl rfl ?_
                                    refine t_getA (j := 2) X rfl fl_X10_16 dX10_readDoor_525 ?_
                                    refine v_iload_n X dX10_readDoor_528 3 2 rfl rfl ?_
                                    refine v_iconst (v := 1) X dX10_readDoor_529 (by decide) ?_
                                    refine v_iadd X dX10_readDoor_530 ?_
                                    refine t_iald (j := 2) X hd rfl dX10_readDoor_531 (fun v49 hd => ?_)
                                    refine v_aload_n X dX10_readDoor_532 1 0 rfl rfl ?_
                                    refine t_getA (j := 2) X rfl fl_X10_16 dX10_readDoor_533 ?_
                                    refine v_iload_n X dX10_readDoor_536 3 2 rfl rfl ?_
                                    refine v_iconst (v := 2) X dX10_readDoor_537 (by decide) ?_
                                    refine v_iadd X dX10_readDoor_538 ?_
                                    refine t_iald (j := 2) X hd rfl dX10_readDoor_539 (fun v50 hd => ?_)
                                    refine v_iconst (v := 1) X dX10_readDoor_540 (by decide) ?_
                                    obtain ⟨u51, m1, hd, hd2⟩ := TM.bind_some hd
                                    have KJ : V K 7 (mkM am hn m1) 550 [(0, .ref am), (1, .int v1), (2, .int v2), (4, .int s40), (5, .int v48)] [.int u51, .int v49] := by
                                      clear hd
                                      have hd := hd2
                                      refine v_iadd X dX10_readDoor_550 ?_
                                      refine t_lvI hd (fun v52 hd => ?_)
                                      refine v_istore (lv2 := [(6, .int v52), (0, .ref am), (1, .int v1), (2, .int v2), (4, .int s40), (5, .int v48)]) X dX10_readDoor_551 (by decide) rfl ?_
                                      refine v_aload_n X dX10_readDoor_553 1 0 rfl rfl ?_
                                      refine t_getA (j := 2) X rfl fl_X10_16 dX10_readDoor_554 ?_
                                      refine v_sipush (v := 210) X dX10_readDoor_557 (by decide) ?_
                                      refine v_bipush (v := 10) X dX10_readDoor_560 (by decide) ?_
                                      refine v_iload X dX10_readDoor_562 0 rfl ?_
                                      refine v_imul X dX10_readDoor_564 ?_
                                      refine v_iadd X dX10_readDoor_565 ?_
                                      refine v_iload X dX10_readDoor_566 5 rfl ?_
                                      refine v_iadd X dX10_readDoor_568 ?_
                                      refine v_iload_n X dX10_readDoor_569 2 1 rfl rfl ?_
                                      refine v_iconst (v := 1) X dX10_readDoor_570 (by decide) ?_
                                      refine v_iadd X dX10_readDoor_571 ?_
                                      refine t_iast (j := 2) X hd rfl dX10_readDoor_572 (fun ms hd => ?_)
                                      refine t_iincL (lv2 := fun v53 => [(4, .int v53), (6, .int v52), (0, .ref am), (1, .int v1), (2, .int v2), (5, .int v48)]) X hd dX10_readDoor_573 4 rfl (by decide : Int32.ofInt 1 = 1) (by decide) (fun v53 => rfl) (fun v53 hd => ?_)
                                      refine v_goto (tgt := 483) X dX10_readDoor_576 (by decide) ?_
                                      exact v_loc [2, 3, 4, 0] rfl (Tlp_in (P := fun (s40 : Int32) m => V K 7 (mkM am hn m) 483 [(0, .ref am), (1, .int v1), (2, .int v2), (4, .int s40)] []) hd ih41)
                                    clear hd2
                                    refine v_icmp_ne (tgt := 549) X dX10_readDoor_541 (by decide) (fun q => ?_) (fun q => ?_)
                                    · have hd := Tite_f q hd
                                      refine v_iconst (v := 0) X dX10_readDoor_549 (by decide) ?_
                                      exact v_loc [1, 2, 3, 4, 0] rfl (t_at (P := fun (u51 : Int32) m => V K 7 (mkM am hn m) 550 [(0, .ref am), (1, .int v1), (2, .int v2), (4, .int s40), (5, .int v48)] [.int u51, .int v49]) hd KJ)
                                    · have hd := Tite_t q hd
                                      refine v_iload X dX10_readDoor_544 4 rfl ?_
                                      refine v_goto (tgt := 550) X dX10_readDoor_546 (by decide) ?_
                                      exact v_loc [1, 2, 3, 4, 0] rfl (t_at (P := fun (u51 : Int32) m => V K 7 (mkM am hn m) 550 [(0, .ref am), (1, .int v1), (2, .int v2), (4, .int s40), (5, .int v48)] [.int u51, .int v49]) hd KJ)
                                  clear hd2
                                  refine v_if_ne (tgt := 520) X dX10_readDoor_512 (by decide) (fun q => ?_) (fun q => ?_)
                                  · have hd := Tite_f q hd
                                    refine v_iconst (v := 0) X dX10_readDoor_520 (by decide) ?_
                                    exact v_loc [0, 1, 2, 3] rfl (t_at (P := fun (u47 : Int32) m => V K 7 (mkM am hn m) 521 [(0, .ref am), (1, .int v1), (2, .int v2), (4, .int s40)] [.int u47, .int v45]) hd KJ)
                                  · have hd := Tite_t q hd
                                    refine v_iload X dX10_readDoor_515 3 rfl ?_
                                    refine v_goto (tgt := 521) X dX10_readDoor_517 (by decide) ?_
                                    exact v_loc [0, 1, 2, 3] rfl (t_at (P := fun (u47 : Int32) m => V K 7 (mkM am hn m) 521 [(0, .ref am), (1, .int v1), (2, .int v2), (4, .int s40)] [.int u47, .int v45]) hd KJ)
                              clear hd2
                              refine v_ifZ_eq (tgt := 480) X dX10_readDoor_473 (by decide) (fun q => ?_) (fun q => ?_)
                              · have hd := Tcnd_f q hd
                                exact v_loc [0, 1, 2] rfl (t_at (P := fun (u39 : Unit) m => V K 7 (mkM am hn m) 480 [(0, .ref am), (1, .int v1), (2, .int v2)] []) hd KJ)
                              · have hd := Tcnd_t q hd
                                refine v_aload_n X dX10_readDoor_476 0 0 rfl rfl ?_
                                refine t_callV X hK hd (ct_X10_go _ am) (lw_V q1876 q1878 qs39 q120 q1879) ⟨rfl, dn_X10_go⟩ rfl ⟨by decide, by decide⟩ rfl (Nat.le_of_ble_eq_true rfl) dX10_readDoor_477 (fun v55 ms hd => ?_)
                                show V K 7 (mkM am hn ms) 480 [(0, .ref am), (1, .int v1), (2, .int v2)] []
                                exact v_loc [0, 1, 2] rfl (t_at (P := fun (u39 : Unit) m => V K 7 (mkM am hn m) 480 [(0, .ref am), (1, .int v1), (2, .int v2)] []) hd KJ)
                            clear hd2
                            refine v_ifZ_eq (tgt := 465) X dX10_readDoor_458 (by decide) (fun q => ?_) (fun q => ?_)
                            · have hd := Tcnd_f q hd
                              refine v_iconst (v := 0) X dX10_readDoor_465 (by decide) ?_
                              exact v_loc [0, 1, 2] rfl (t_at (P := fun (u37 : Bool) m => V K 7 (mkM am hn m) 466 [(0, .ref am), (1, .int v1), (2, .int v2)] [.int (b2i u37), .int (v2 + 7), .ref (am + (2 + 1))]) hd KJ)
                            · have hd := Tcnd_t q hd
                              refine v_iconst (v := 1) X dX10_readDoor_461 (by decide) ?_
                              refine v_goto (tgt := 466) X dX10_readDoor_462 (by decide) ?_
                              exact v_loc [0, 1, 2] rfl (t_at (P := fun (u37 : Bool) m => V K 7 (mkM am hn m) 466 [(0, .ref am), (1, .int v1), (2, .int v2)] [.int (b2i u37), .int (v2 + 7), .ref (am + (2 + 1))]) hd KJ)
                          · have hd := Tcnd_t q hd
                            refine v_aload_n X dX10_readDoor_415 0 0 rfl rfl ?_
                            refine t_callV X hK hd (ct_X10_go _ am) (lw_V q1876 q1878 qs39 q120 q1879) ⟨rfl, dn_X10_go⟩ rfl ⟨by decide, by decide⟩ rfl (Nat.le_of_ble_eq_true rfl) dX10_readDoor_416 (fun v56 ms hd => ?_)
                            show V K 7 (mkM am hn ms) 419 [(0, .ref am), (1, .int v1), (2, .int v2)] []
                            refine v_aload_n X dX10_readDoor_419 0 0 rfl rfl ?_
                            refine v_iconst (v := 1) X dX10_readDoor_420 (by decide) ?_
                            refine v_bipush (v := 99) X dX10_readDoor_421 (by decide) ?_
                            refine t_callV X hK hd (ct_X10_readNumber _ am 1 99) (lw_V q1936 q1938 qs49 q120 q1939) ⟨rfl, dn_X10_readNumber⟩ rfl ⟨by decide, by decide⟩ rfl (Nat.le_of_ble_eq_true rfl) dX10_readDoor_423 (fun v57 ms hd => ?_)
                            show V K 7 (mkM am hn ms) 426 [(0, .ref am), (1, .int v1), (2, .int v2)] [.int (b2i v57)]
                            refine v_ifZ_ne (tgt := 431) X dX10_readDoor_426 (by decide) (fun q => ?_) (fun q => ?_)
                            · have hd := Tcnd_t q hd
                              refine v_aload_n X dX10_readDoor_431 0 0 rfl rfl ?_
                              refine t_getA (j := 2) X rfl fl_X10_16 dX10_readDoor_432 ?_
                              refine v_iload_n X dX10_readDoor_435 2 2 rfl rfl ?_
                              refine v_bipush (v := 6) X dX10_readDoor_436 (by decide) ?_
                              refine v_iadd X dX10_readDoor_438 ?_
                              refine v_aload_n X dX10_readDoor_439 0 0 rfl rfl ?_
                              refine t_getI X hd rfl fl_X10_191 dX10_readDoor_440 (fun v58 hd => ?_)
                              refine t_iast (j := 2) X hd rfl dX10_readDoor_443 (fun ms hd => ?_)
                              refine v_aload_n X dX10_readDoor_444 0 0 rfl rfl ?_
                              refine t_getA (j := 2) X rfl fl_X10_16 dX10_readDoor_445 ?_
                              refine v_iload_n X dX10_readDoor_448 2 2 rfl rfl ?_
                              refine v_bipush (v := 7) X dX10_readDoor_449 (by decide) ?_
                              refine v_iadd X dX10_readDoor_451 ?_
                              refine v_aload_n X dX10_readDoor_452 0 0 rfl rfl ?_
                              refine v_bipush (v := 8) X dX10_readDoor_453 (by decide) ?_
                              refine t_callV X hK hd (ct_X10_isWord _ am 8) (lw_V q1896 q1898 qs42 q120 q1899) ⟨rfl, dn_X10_isWord⟩ rfl ⟨by decide, by decide⟩ rfl (Nat.le_of_ble_eq_true rfl) dX10_readDoor_455 (fun v59 ms hd => ?_)
                              show V K 7 (mkM am hn ms) 458 [(0, .ref am), (1, .int v1), (2, .int v2)] [.int (b2i v59), .int (v2 + 7), .ref (am + (2 + 1))]
                              obtain ⟨u60, m1, hd, hd2⟩ := TM.bind_some hd
                              have KJ : V K 7 (mkM am hn m1) 466 [(0, .ref am), (1, .int v1), (2, .int v2)] [.int (b2i u60), .int (v2 + 7), .ref (am + (2 + 1))] := by
                                clear hd
                                have hd := hd2
                                refine t_iast (j := 2) X hd rfl dX10_readDoor_466 (fun ms hd => ?_)
                                refine v_aload_n X dX10_readDoor_467 0 0 rfl rfl ?_
                                refine v_bipush (v := 8) X dX10_readDoor_468 (by decide) ?_
                                refine t_callV X hK hd (ct_X10_isWord _ am 8) (lw_V q1896 q1898 qs42 q120 q1899) ⟨rfl, dn_X10_isWord⟩ rfl ⟨by decide, by decide⟩ rfl (Nat.le_of_ble_eq_true rfl) dX10_readDoor_470 (fun v61 ms hd => ?_)
                                show V K 7 (mkM am hn ms) 473 [(0, .ref am), (1, .int v1), (2, .int v2)] [.int (b2i v61)]
                                obtain ⟨u62, m1, hd, hd2⟩ := TM.bind_some hd
                                have KJ : V K 7 (mkM am hn m1) 480 [(0, .ref am), (1, .int v1), (2, .int v2)] [] := by
                                  clear hd
                                  have hd := hd2
                                  refine v_iconst (v := 0) X dX10_readDoor_480 (by decide) ?_
                                  refine v_istore (lv2 := [(4, .int 0), (0, .ref am), (1, .int v1), (2, .int v2)]) X dX10_readDoor_481 (by decide) rfl ?_
                                  obtain ⟨e66, m1, hd, hd2⟩ := TM.bind_some hd
                                  have KX : V K 7 (mkM am hn m1) 579 [(0, .ref am)] [] := by
                                    clear hd
                                    have hd := hd2
                                    refine v_aload_n X dX10_readDoor_579 0 0 rfl rfl ?_
                                    refine t_getA (j := 2) X rfl fl_X10_16 dX10_readDoor_580 ?_
                                    refine v_iconst (v := 2) X dX10_readDoor_583 (by decide) ?_
                                    refine v_dup2 X dX10_readDoor_584 rfl rfl ?_
                                    refine t_iald (j := 2) X hd rfl dX10_readDoor_585 (fun v77 hd => ?_)
                                    refine v_iconst (v := 1) X dX10_readDoor_586 (by decide) ?_
                                    refine v_iadd X dX10_readDoor_587 ?_
                                    refine t_iast (j := 2) X hd rfl dX10_readDoor_588 (fun ms hd => ?_)
                                    refine v_iconst (v := 1) X dX10_readDoor_589 (by decide) ?_
                                    have hd := Tlp_out hd ho33
                                    exact t_zret X hK hd rfl ho dX10_readDoor_590
                                  clear hd2
                                  refine v_loc [1, 2, 3, 0] rfl ?_
                                  refine Tloop_ind hd (fun (s63 : Int32) m => V K 7 (mkM am hn m) 483 [(0, .ref am), (1, .int v1), (2, .int v2), (4, .int s63)] []) (fun s63 ms x m2 hd ih64 ho65 => ?_)
                                  refine v_iload X dX10_readDoor_483 3 rfl ?_
                                  refine v_aload_n X dX10_readDoor_485 0 0 rfl rfl ?_
                                  refine t_getA (j := 2) X rfl fl_X10_16 dX10_readDoor_486 ?_
                                  refine v_iload_n X dX10_readDoor_489 2 2 rfl rfl ?_
                                  refine v_iconst (v := 3) X dX10_readDoor_490 (by decide) ?_
                                  refine v_iadd X dX10_readDoor_491 ?_
                                  refine t_iald (j := 2) X hd rfl dX10_readDoor_492 (fun v67 hd => ?_)
                                  refine v_icmp_ge (tgt := 579) X dX10_readDoor_493 (by decide) (fun q => ?_) (fun q => ?_)
                                  · have hd := Tite_t q hd
                                    exact v_loc [0] rfl (t_at (P := fun (e66 : Unit) m => V K 7 (mkM am hn m) 579 [(0, .ref am)] []) (Tlp_out hd ho65) KX)
                                  · have hd := Tite_f q hd
                                    refine v_aload_n X dX10_readDoor_496 0 0 rfl rfl ?_
                                    refine t_getA (j := 2) X rfl fl_X10_16 dX10_readDoor_497 ?_
                                    refine v_iload_n X dX10_readDoor_500 2 2 rfl rfl ?_
                                    refine v_iconst (v := 0) X dX10_readDoor_501 (by decide) ?_
                                    refine v_iadd X dX10_readDoor_502 ?_
                                    refine t_iald (j := 2) X hd rfl dX10_readDoor_503 (fun v68 hd => ?_)
                                    refine v_aload_n X dX10_readDoor_504 0 0 rfl rfl ?_
                                    refine t_getA (j := 2) X rfl fl_X10_16 dX10_readDoor_505 ?_
                                    refine v_iload_n X dX10_readDoor_508 2 2 rfl rfl ?_
                                    refine v_iconst (v := 2) X dX10_readDoor_509 (by decide) ?_
                                    refine v_iadd X dX10_readDoor_510 ?_
                                    refine t_iald (j := 2) X hd rfl dX10_readDoor_511 (fun v69 hd => ?_)
                                    obtain ⟨u70, m1, hd, hd2⟩ := TM.bind_some hd
                                    have KJ : V K 7 (mkM am hn m1) 521 [(0, .ref am), (1, .int v1), (2, .int v2), (4, .int s63)] [.int u70, .int v68] := by
                                      clear hd
                                      have hd := hd2
                                      refine v_iadd X dX10_readDoor_521 ?_
                                      refine t_lvI hd (fun v71 hd => ?_)
                                      refine v_istore (lv2 := [(5, .int v71), (0, .ref am), (1, .int v1), (2, .int v2), (4, .int s63)]) X dX10_readDoor_522 (by decide) rfl ?_
                                      refine v_aload_n X dX10_readDoor_524 1 0 rfl rfl ?_
                                      refine t_getA (j := 2) X rfl fl_X10_16 dX10_readDoor_525 ?_
                                      refine v_iload_n X dX10_readDoor_528 3 2 rfl rfl ?_
                                      refine v_iconst (v := 1) X dX10_readDoor_529 (by decide) ?_
                                      refine v_iadd X dX10_readDoor_530 ?_
                                      refine t_iald (j := 2) X hd rfl dX10_readDoor_531 (fun v72 hd => ?_)
                                      refine v_aload_n X dX10_readDoor_532 1 0 rfl rfl ?_
                                      refine t_getA (j := 2) X rfl fl_X10_16 dX10_readDoor_533 ?_
                                      refine v_iload_n X dX10_readDoor_536 3 2 rfl rfl ?_
                                      refine v_iconst (v := 2) X dX10_readDoor_537 (by decide) ?_
                                      refine v_iadd X dX10_readDoor_538 ?_
                                      refine t_iald (j := 2) X hd rfl dX10_readDoor_539 (fun v73 hd => ?_)
                                      refine v_iconst (v := 1) X dX10_readDoor_540 (by decide) ?_
                                      obtain ⟨u74, m1, hd, hd2⟩ := TM.bind_some hd
                                      have KJ : V K 7 (mkM am hn m1) 550 [(0, .ref am), (1, .int v1), (2, .int v2), (4, .int s63), (5, .int v71)] [.int u74, .int v72] := by
                                        clear hd
                                        have hd := hd2
                                        refine v_iadd X dX10_readDoor_550 ?_
                                        refine t_lvI hd (fun v75 hd => ?_)
                                        refine v_istore (lv2 := [(6, .int v75), (0, .ref am), (1, .int v1), (2, .int v2), (4, .int s63), (5, .int v71)]) X dX10_readDoor_551 (by decide) rfl ?_
                                        refine v_aload_n X dX10_readDoor_553 1 0 rfl rfl ?_
                                        refine t_getA (j := 2) X rfl fl_X10_16 dX10_readDoor_554 ?_
                                        refine v_sipush (v := 210) X dX10_readDoor_557 (by decide) ?_
                                        refine v_bipush (v := 10) X dX10_readDoor_560 (by decide) ?_
                                        refine v_iload X dX10_readDoor_562 0 rfl ?_
                                        refine v_imul X dX10_readDoor_564 ?_
                                        refine v_iadd X dX10_readDoor_565 ?_
                                        refine v_iload X dX10_readDoor_566 5 rfl ?_
                                        refine v_iadd X dX10_readDoor_568 ?_
                                        refine v_iload_n X dX10_readDoor_569 2 1 rfl rfl ?_
                                        refine v_iconst (v := 1) X dX10_readDoor_570 (by decide) ?_
                                        refine v_iadd X dX10_readDoor_571 ?_
                                        refine t_iast (j := 2) X hd rfl dX10_readDoor_572 (fun ms hd => ?_)
                                        refine t_iincL (lv2 := fun v76 => [(4, .int v76), (6, .int v75), (0, .ref am), (1, .int v1), (2, .int v2), (5, .int v71)]) X hd dX10_readDoor_573 4 rfl (by decide : Int32.ofInt 1 = 1) (by decide) (fun v76 => rfl) (fun v76 hd => ?_)
                                        refine v_goto (tgt := 483) X dX10_readDoor_576 (by decide) ?_
                                        exact v_loc [2, 3, 4, 0] rfl (Tlp_in (P := fun (s63 : Int32) m => V K 7 (mkM am hn m) 483 [(0, .ref am), (1, .int v1), (2, .int v2), (4, .int s63)] []) hd ih64)
                                      clear hd2
                                      refine v_icmp_ne (tgt := 549) X dX10_readDoor_541 (by decide) (fun q => ?_) (fun q => ?_)
                                      · have hd := Tite_f q hd
                                        refine v_iconst (v := 0) X dX10_readDoor_549 (by decide) ?_
                                        exact v_loc [1, 2, 3, 4, 0] rfl (t_at (P := fun (u74 : Int32) m => V K 7 (mkM am hn m) 550 [(0, .ref am), (1, .int v1), (2, .int v2), (4, .int s63), (5, .int v71)] [.int u74, .int v72]) hd KJ)
                                      · have hd := Tite_t q hd
                                        refine v_iload X dX10_readDoor_544 4 rfl ?_
                                        refine v_goto (tgt := 550) X dX10_readDoor_546 (by decide) ?_
                                        exact v_loc [1, 2, 3, 4, 0] rfl (t_at (P := fun (u74 : Int32) m => V K 7 (mkM am hn m) 550 [(0, .ref am), (1, .int v1), (2, .int v2), (4, .int s63), (5, .int v71)] [.int u74, .int v72]) hd KJ)
                                    clear hd2
                                    refine v_if_ne (tgt := 520) X dX10_readDoor_512 (by decide) (fun q => ?_) (fun q => ?_)
                                    · have hd := Tite_f q hd
                                      refine v_iconst (v := 0) X dX10_readDoor_520 (by decide) ?_
                                      exact v_loc [0, 1, 2, 3] rfl (t_at (P := fun (u70 : Int32) m => V K 7 (mkM am hn m) 521 [(0, .ref am), (1, .int v1), (2, .int v2), (4, .int s63)] [.int u70, .int v68]) hd KJ)
                                    · have hd := Tite_t q hd
                                      refine v_iload X dX10_readDoor_515 3 rfl ?_
                                      refine v_goto (tgt := 521) X dX10_readDoor_517 (by decide) ?_
                                      exact v_loc [0, 1, 2, 3] rfl (t_at (P := fun (u70 : Int32) m => V K 7 (mkM am hn m) 521 [(0, .ref am), (1, .int v1), (2, .int v2), (4, .int s63)] [.int u70, .int v68]) hd KJ)
                                clear hd2
                                refine v_ifZ_eq (tgt := 480) X dX10_readDoor_473 (by decide) (fun q => ?_) (fun q => ?_)
                                · have hd := Tcnd_f q hd
                                  exact v_loc [0, 1, 2] rfl (t_at (P := fun (u62 : Unit) m => V K 7 (mkM am hn m) 480 [(0, .ref am), (1, .int v1), (2, .int v2)] []) hd KJ)
                                · have hd := Tcnd_t q hd
                                  refine v_aload_n X dX10_readDoor_476 0 0 rfl rfl ?_
                                  refine t_callV X hK hd (ct_X10_go _ am) (lw_V q1876 q1878 qs39 q120 q1879) ⟨rfl, dn_X10_go⟩ rfl ⟨by decide, by decide⟩ rfl (Nat.le_of_ble_eq_true rfl) dX10_readDoor_477 (fun v78 ms hd => ?_)
                                  show V K 7 (mkM am hn ms) 480 [(0, .ref am), (1, .int v1), (2, .int v2)] []
                                  exact v_loc [0, 1, 2] rfl (t_at (P := fun (u62 : Unit) m => V K 7 (mkM am hn m) 480 [(0, .ref am), (1, .int v1), (2, .int v2)] []) hd KJ)
                              clear hd2
                              refine v_ifZ_eq (tgt := 465) X dX10_readDoor_458 (by decide) (fun q => ?_) (fun q => ?_)
                              · have hd := Tcnd_f q hd
                                refine v_iconst (v := 0) X dX10_readDoor_465 (by decide) ?_
                                exact v_loc [0, 1, 2] rfl (t_at (P := fun (u60 : Bool) m => V K 7 (mkM am hn m) 466 [(0, .ref am), (1, .int v1), (2, .int v2)] [.int (b2i u60), .int (v2 + 7), .ref (am + (2 + 1))]) hd KJ)
                              · have hd := Tcnd_t q hd
                                refine v_iconst (v := 1) X dX10_readDoor_461 (by decide) ?_
                                refine v_goto (tgt := 466) X dX10_readDoor_462 (by decide) ?_
                                exact v_loc [0, 1, 2] rfl (t_at (P := fun (u60 : Bool) m => V K 7 (mkM am hn m) 466 [(0, .ref am), (1, .int v1), (2, .int v2)] [.int (b2i u60), .int (v2 + 7), .ref (am + (2 + 1))]) hd KJ)
                            · have hd := Tcnd_f q hd
                              refine v_iconst (v := 0) X dX10_readDoor_429 (by decide) ?_
                              have hd := Tlp_out hd ho33
                              exact t_zret X hK hd rfl ho dX10_readDoor_430
                        · have hd := Tcnd_t q hd
                          refine v_aload_n X dX10_readDoor_316 0 0 rfl rfl ?_
                          refine t_callV X hK hd (ct_X10_go _ am) (lw_V q1876 q1878 qs39 q120 q1879) ⟨rfl, dn_X10_go⟩ rfl ⟨by decide, by decide⟩ rfl (Nat.le_of_ble_eq_true rfl) dX10_readDoor_317 (fun v79 ms hd => ?_)
                          show V K 7 (mkM am hn ms) 320 [(0, .ref am), (1, .int v1), (2, .int v2)] []
                          refine v_aload_n X dX10_readDoor_320 0 0 rfl rfl ?_
                          refine t_getI X hd rfl fl_X10_131 dX10_readDoor_321 (fun v80 hd => ?_)
                          refine v_iconst (v := 3) X dX10_readDoor_324 (by decide) ?_
                          refine v_icmp_eq (tgt := 334) X dX10_readDoor_325 (by decide) (fun q => ?_) (fun q => ?_)
                          · have hd := Tite_t q hd
                            refine v_aload_n X dX10_readDoor_334 0 0 rfl rfl ?_
                            refine t_getI X hd rfl fl_X10_148 dX10_readDoor_335 (fun v81 hd => ?_)
                            refine v_iconst (v := 3) X dX10_readDoor_338 (by decide) ?_
                            refine v_icmp_le (tgt := 348) X dX10_readDoor_339 (by decide) (fun q => ?_) (fun q => ?_)
                            · have hd := Tite_t q hd
                              refine v_aload_n X dX10_readDoor_348 0 0 rfl rfl ?_
                              refine t_getA (j := 2) X rfl fl_X10_16 dX10_readDoor_349 ?_
                              refine v_iload_n X dX10_readDoor_352 2 2 rfl rfl ?_
                              refine v_iconst (v := 5) X dX10_readDoor_353 (by decide) ?_
                              refine v_iadd X dX10_readDoor_354 ?_
                              refine t_iald (j := 2) X hd rfl dX10_readDoor_355 (fun v82 hd => ?_)
                              refine v_aload_n X dX10_readDoor_356 0 0 rfl rfl ?_
                              refine t_getI X hd rfl fl_X10_148 dX10_readDoor_357 (fun v83 hd => ?_)
                              refine t_callS X hK hd (ct_X10_has _ am v82 v83) (lw_S q1947 q1948 q120 q1949) dn_X10_has rfl ⟨by decide, by decide⟩ rfl (Nat.le_of_ble_eq_true rfl) dX10_readDoor_360 (fun v84 ms hd => ?_)
                              show V K 7 (mkM am hn ms) 363 [(0, .ref am), (1, .int v1), (2, .int v2)] [.int (b2i v84)]
                              refine v_ifZ_eq (tgt := 372) X dX10_readDoor_363 (by decide) (fun q => ?_) (fun q => ?_)
                              · have hd := Tcnd_f q hd
                                refine v_aload_n X dX10_readDoor_372 0 0 rfl rfl ?_
                                refine t_getA (j := 2) X rfl fl_X10_16 dX10_readDoor_373 ?_
                                refine v_iload_n X dX10_readDoor_376 2 2 rfl rfl ?_
                                refine v_iconst (v := 5) X dX10_readDoor_377 (by decide) ?_
                                refine v_iadd X dX10_readDoor_378 ?_
                                refine v_dup2 X dX10_readDoor_379 rfl rfl ?_
                                refine t_iald (j := 2) X hd rfl dX10_readDoor_380 (fun v85 hd => ?_)
                                refine v_iconst (v := 1) X dX10_readDoor_381 (by decide) ?_
                                refine v_aload_n X dX10_readDoor_382 0 0 rfl rfl ?_
                                refine t_getI X hd rfl fl_X10_148 dX10_readDoor_383 (fun v86 hd => ?_)
                                refine v_ishl X dX10_readDoor_386 ?_
                                refine v_ior X dX10_readDoor_387 ?_
                                refine t_iast (j := 2) X hd rfl dX10_readDoor_388 (fun ms hd => ?_)
                                refine v_aload_n X dX10_readDoor_389 0 0 rfl rfl ?_
                                refine t_callV X hK hd (ct_X10_go _ am) (lw_V q1876 q1878 qs39 q120 q1879) ⟨rfl, dn_X10_go⟩ rfl ⟨by decide, by decide⟩ rfl (Nat.le_of_ble_eq_true rfl) dX10_readDoor_390 (fun v87 ms hd => ?_)
                                show V K 7 (mkM am hn ms) 393 [(0, .ref am), (1, .int v1), (2, .int v2)] []
                                refine v_goto (tgt := 307) X dX10_readDoor_393 (by decide) ?_
                                exact v_loc [0, 1, 2] rfl (Tlp_in (P := fun (s31 : Unit) m => V K 7 (mkM am hn m) 307 [(0, .ref am), (1, .int v1), (2, .int v2)] []) hd ih32)
                              · have hd := Tcnd_t q hd
                                refine v_aload_n X dX10_readDoor_366 0 0 rfl rfl ?_
                                refine v_iconst (v := 3) X dX10_readDoor_367 (by decide) ?_
                                refine t_callV X hK hd (ct_X10_bad _ am 3) (lw_V q1913 q1915 qs44 q120 q1916) ⟨rfl, dn_X10_bad⟩ rfl ⟨by decide, by decide⟩ rfl (Nat.le_of_ble_eq_true rfl) dX10_readDoor_368 (fun v88 ms hd => ?_)
                                show V K 7 (mkM am hn ms) 371 [(0, .ref am), (1, .int v1), (2, .int v2)] [.int (b2i v88)]
                                have hd := Tlp_out hd ho33
                                exact t_zret X hK hd rfl ho dX10_readDoor_371
                            · have hd := Tite_f q hd
                              refine v_aload_n X dX10_readDoor_342 0 0 rfl rfl ?_
                              refine v_iconst (v := 2) X dX10_readDoor_343 (by decide) ?_
                              refine t_callV X hK hd (ct_X10_bad _ am 2) (lw_V q1913 q1915 qs44 q120 q1916) ⟨rfl, dn_X10_bad⟩ rfl ⟨by decide, by decide⟩ rfl (Nat.le_of_ble_eq_true rfl) dX10_readDoor_344 (fun v89 ms hd => ?_)
                              show V K 7 (mkM am hn ms) 347 [(0, .ref am), (1, .int v1), (2, .int v2)] [.int (b2i v89)]
                              have hd := Tlp_out hd ho33
                              exact t_zret X hK hd rfl ho dX10_readDoor_347
                          · have hd := Tite_f q hd
                            refine v_aload_n X dX10_readDoor_328 0 0 rfl rfl ?_
                            refine v_iconst (v := 1) X dX10_readDoor_329 (by decide) ?_
                            refine t_callV X hK hd (ct_X10_bad _ am 1) (lw_V q1913 q1915 qs44 q120 q1916) ⟨rfl, dn_X10_bad⟩ rfl ⟨by decide, by decide⟩ rfl (Nat.le_of_ble_eq_true rfl) dX10_readDoor_330 (fun v90 ms hd => ?_)
                            show V K 7 (mkM am hn ms) 333 [(0, .ref am), (1, .int v1), (2, .int v2)] [.int (b2i v90)]
                            have hd := Tlp_out hd ho33
                            exact t_zret X hK hd rfl ho dX10_readDoor_333
                      · have hd := Tcnd_f q hd
                        refine v_iconst (v := 0) X dX10_readDoor_279 (by decide) ?_
                        exact t_zret X hK hd rfl ho dX10_readDoor_280
                    · have hd := Tite_f q hd
                      refine v_aload_n X dX10_readDoor_248 1 0 rfl rfl ?_
                      refine v_iload_n X dX10_readDoor_249 0 3 rfl rfl ?_
                      refine t_callV X hK hd (ct_X10_bad _ am v25) (lw_V q1913 q1915 qs44 q120 q1916) ⟨rfl, dn_X10_bad⟩ rfl ⟨by decide, by decide⟩ rfl (Nat.le_of_ble_eq_true rfl) dX10_readDoor_250 (fun v91 ms hd => ?_)
                      show V K 7 (mkM am hn ms) 253 [(3, .int v25), (0, .ref am), (1, .int v1), (2, .int v2)] [.int (b2i v91)]
                      exact t_zret X hK hd rfl ho dX10_readDoor_253
                  · have hd := Tcnd_f q hd
                    refine v_aload_n X dX10_readDoor_205 0 0 rfl rfl ?_
                    refine v_iconst (v := 2) X dX10_readDoor_206 (by decide) ?_
                    refine t_callV X hK hd (ct_X10_bad _ am 2) (lw_V q1913 q1915 qs44 q120 q1916) ⟨rfl, dn_X10_bad⟩ rfl ⟨by decide, by decide⟩ rfl (Nat.le_of_ble_eq_true rfl) dX10_readDoor_207 (fun v92 ms hd => ?_)
                    show V K 7 (mkM am hn ms) 210 [(0, .ref am), (1, .int v1), (2, .int v2)] [.int (b2i v92)]
                    exact t_zret X hK hd rfl ho dX10_readDoor_210
                · have hd := Tite_f q hd
                  refine v_aload_n X dX10_readDoor_187 0 0 rfl rfl ?_
                  refine v_iconst (v := 1) X dX10_readDoor_188 (by decide) ?_
                  refine t_callV X hK hd (ct_X10_bad _ am 1) (lw_V q1913 q1915 qs44 q120 q1916) ⟨rfl, dn_X10_bad⟩ rfl ⟨by decide, by decide⟩ rfl (Nat.le_of_ble_eq_true rfl) dX10_readDoor_189 (fun v93 ms hd => ?_)
                  show V K 7 (mkM am hn ms) 192 [(0, .ref am), (1, .int v1), (2, .int v2)] [.int (b2i v93)]
                  exact t_zret X hK hd rfl ho dX10_readDoor_192
              clear hd2
              refine v_ifZ_eq (tgt := 173) X dX10_readDoor_166 (by decide) (fun q => ?_) (fun q => ?_)
              · have hd := Tcnd_f q hd
                refine v_iconst (v := 0) X dX10_readDoor_173 (by decide) ?_
                exact v_loc [2, 1, 0] rfl (t_at (P := fun (u16 : Bool) m => V K 7 (mkM am hn m) 174 [(0, .ref am), (1, .int v1), (2, .int v2)] [.int (b2i u16), .int (v2 + 2), .ref (am + (2 + 1))]) hd KJ)
              · have hd := Tcnd_t q hd
                refine v_iconst (v := 1) X dX10_readDoor_169 (by decide) ?_
                refine v_goto (tgt := 174) X dX10_readDoor_170 (by decide) ?_
                exact v_loc [2, 1, 0] rfl (t_at (P := fun (u16 : Bool) m => V K 7 (mkM am hn m) 174 [(0, .ref am), (1, .int v1), (2, .int v2)] [.int (b2i u16), .int (v2 + 2), .ref (am + (2 + 1))]) hd KJ)
            · have hd := Tcnd_f q hd
              refine v_aload_n X dX10_readDoor_140 2 0 rfl rfl ?_
              refine v_iconst (v := 5) X dX10_readDoor_141 (by decide) ?_
              refine t_callV X hK hd (ct_X10_isWord _ am 5) (lw_V q1896 q1898 qs42 q120 q1899) ⟨rfl, dn_X10_isWord⟩ rfl ⟨by decide, by decide⟩ rfl (Nat.le_of_ble_eq_true rfl) dX10_readDoor_142 (fun v94 ms hd => ?_)
              show V K 7 (mkM am hn ms) 145 [(2, .int v2), (1, .int v1), (0, .ref am)] [.int (b2i v94)]
              refine v_ifZ_ne (tgt := 154) X dX10_readDoor_145 (by decide) (fun q => ?_) (fun q => ?_)
              · have hd := Tcnd_t q hd
                refine v_aload_n X dX10_readDoor_154 2 0 rfl rfl ?_
                refine t_getA (j := 2) X rfl fl_X10_16 dX10_readDoor_155 ?_
                refine v_iload_n X dX10_readDoor_158 0 2 rfl rfl ?_
                refine v_iconst (v := 2) X dX10_readDoor_159 (by decide) ?_
                refine v_iadd X dX10_readDoor_160 ?_
                refine v_aload_n X dX10_readDoor_161 2 0 rfl rfl ?_
                refine v_iconst (v := 5) X dX10_readDoor_162 (by decide) ?_
                refine t_callV X hK hd (ct_X10_isWord _ am 5) (lw_V q1896 q1898 qs42 q120 q1899) ⟨rfl, dn_X10_isWord⟩ rfl ⟨by decide, by decide⟩ rfl (Nat.le_of_ble_eq_true rfl) dX10_readDoor_163 (fun v95 ms hd => ?_)
                show V K 7 (mkM am hn ms) 166 [(2, .int v2), (1, .int v1), (0, .ref am)] [.int (b2i v95), .int (v2 + 2), .ref (am + (2 + 1))]
                obtain ⟨u96, m1, hd, hd2⟩ := TM.bind_some hd
                have KJ : V K 7 (mkM am hn m1) 174 [(0, .ref am), (1, .int v1), (2, .int v2)] [.int (b2i u96), .int (v2 + 2), .ref (am + (2 + 1))] := by
                  clear hd
                  have hd := hd2
                  refine t_iast (j := 2) X hd rfl dX10_readDoor_174 (fun ms hd => ?_)
                  refine v_aload_n X dX10_readDoor_175 0 0 rfl rfl ?_
                  refine t_callV X hK hd (ct_X10_go _ am) (lw_V q1876 q1878 qs39 q120 q1879) ⟨rfl, dn_X10_go⟩ rfl ⟨by decide, by decide⟩ rfl (Nat.le_of_ble_eq_true rfl) dX10_readDoor_176 (fun v97 ms hd => ?_)
                  show V K 7 (mkM am hn ms) 179 [(0, .ref am), (1, .int v1), (2, .int v2)] []
                  refine v_aload_n X dX10_readDoor_179 0 0 rfl rfl ?_
                  refine t_getI X hd rfl fl_X10_131 dX10_readDoor_180 (fun v98 hd => ?_)
                  refine v_iconst (v := 3) X dX10_readDoor_183 (by decide) ?_
                  refine v_icmp_eq (tgt := 193) X dX10_readDoor_184 (by decide) (fun q => ?_) (fun q => ?_)
                  · have hd := Tite_t q hd
                    refine v_aload_n X dX10_readDoor_193 0 0 rfl rfl ?_
                    refine t_getI X hd rfl fl_X10_148 dX10_readDoor_194 (fun v99 hd => ?_)
                    refine v_iconst (v := 1) X dX10_readDoor_197 (by decide) ?_
                    refine v_iconst (v := 3) X dX10_readDoor_198 (by decide) ?_
                    refine t_callS X hK hd (ct_X10_isIn _ am v99 1 3) (lw_S q1940 q1941 q120 q1942) dn_X10_isIn rfl ⟨by decide, by decide⟩ rfl (Nat.le_of_ble_eq_true rfl) dX10_readDoor_199 (fun v100 ms hd => ?_)
                    show V K 7 (mkM am hn ms) 202 [(0, .ref am), (1, .int v1), (2, .int v2)] [.int (b2i v100)]
                    refine v_ifZ_ne (tgt := 211) X dX10_readDoor_202 (by decide) (fun q => ?_) (fun q => ?_)
                    · have hd := Tcnd_t q hd
                      refine v_aload_n X dX10_readDoor_211 0 0 rfl rfl ?_
                      refine v_aload_n X dX10_readDoor_212 0 0 rfl rfl ?_
                      refine t_getA (j := 2) X rfl fl_X10_16 dX10_readDoor_213 ?_
                      refine v_iload_n X dX10_readDoor_216 2 2 rfl rfl ?_
                      refine v_iconst (v := 0) X dX10_readDoor_217 (by decide) ?_
                      refine v_iadd X dX10_readDoor_218 ?_
                      refine t_iald (j := 2) X hd rfl dX10_readDoor_219 (fun v101 hd => ?_)
                      refine v_aload_n X dX10_readDoor_220 0 0 rfl rfl ?_
                      refine t_getA (j := 2) X rfl fl_X10_16 dX10_readDoor_221 ?_
                      refine v_iload_n X dX10_readDoor_224 2 2 rfl rfl ?_
                      refine v_iconst (v := 1) X dX10_readDoor_225 (by decide) ?_
                      refine v_iadd X dX10_readDoor_226 ?_
                      refine t_iald (j := 2) X hd rfl dX10_readDoor_227 (fun v102 hd => ?_)
                      refine v_aload_n X dX10_readDoor_228 0 0 rfl rfl ?_
                      refine t_getA (j := 2) X rfl fl_X10_16 dX10_readDoor_229 ?_
                      refine v_iload_n X dX10_readDoor_232 2 2 rfl rfl ?_
                      refine v_iconst (v := 2) X dX10_readDoor_233 (by decide) ?_
                      refine v_iadd X dX10_readDoor_234 ?_
                      refine t_iald (j := 2) X hd rfl dX10_readDoor_235 (fun v103 hd => ?_)
                      refine v_aload_n X dX10_readDoor_236 0 0 rfl rfl ?_
                      refine t_getI X hd rfl fl_X10_148 dX10_readDoor_237 (fun v104 hd => ?_)
                      refine t_callV X hK hd (ct_X10_looksAt _ am v101 v102 v103 v104) (lw_V q1943 q1945 qs50 q120 q1946) ⟨rfl, dn_X10_looksAt⟩ rfl ⟨by decide, by decide⟩ rfl (Nat.le_of_ble_eq_true rfl) dX10_readDoor_240 (fun v105 ms hd => ?_)
                      show V K 7 (mkM am hn ms) 243 [(0, .ref am), (1, .int v1), (2, .int v2)] [.int v105]
                      refine v_istore_n (lv2 := [(3, .int v105), (0, .ref am), (1, .int v1), (2, .int v2)]) X dX10_readDoor_243 3 rfl (by decide) rfl ?_
                      refine v_iload_n X dX10_readDoor_244 0 3 rfl rfl ?_
                      refine v_if_le (tgt := 254) X dX10_readDoor_245 (by decide) (fun q => ?_) (fun q => ?_)
                      · have hd := Tite_t q hd
                        refine v_aload_n X dX10_readDoor_254 1 0 rfl rfl ?_
                        refine t_getA (j := 2) X rfl fl_X10_16 dX10_readDoor_255 ?_
                        refine v_iload_n X dX10_readDoor_258 3 2 rfl rfl ?_
                        refine v_iconst (v := 3) X dX10_readDoor_259 (by decide) ?_
                        refine v_iadd X dX10_readDoor_260 ?_
                        refine v_aload_n X dX10_readDoor_261 1 0 rfl rfl ?_
                        refine t_getI X hd rfl fl_X10_148 dX10_readDoor_262 (fun v106 hd => ?_)
                        refine t_iast (j := 2) X hd rfl dX10_readDoor_265 (fun ms hd => ?_)
                        refine v_aload_n X dX10_readDoor_266 1 0 rfl rfl ?_
                        refine t_callV X hK hd (ct_X10_go _ am) (lw_V q1876 q1878 qs39 q120 q1879) ⟨rfl, dn_X10_go⟩ rfl ⟨by decide, by decide⟩ rfl (Nat.le_of_ble_eq_true rfl) dX10_readDoor_267 (fun v107 ms hd => ?_)
                        show V K 7 (mkM am hn ms) 270 [(3, .int v105), (0, .ref am), (1, .int v1), (2, .int v2)] []
                        refine v_aload_n X dX10_readDoor_270 1 0 rfl rfl ?_
                        refine v_iconst (v := 0) X dX10_readDoor_271 (by decide) ?_
                        refine v_iconst (v := 3) X dX10_readDoor_272 (by decide) ?_
                        refine t_callV X hK hd (ct_X10_readNumber _ am 0 3) (lw_V q1936 q1938 qs49 q120 q1939) ⟨rfl, dn_X10_readNumber⟩ rfl ⟨by decide, by decide⟩ rfl (Nat.le_of_ble_eq_true rfl) dX10_readDoor_273 (fun v108 ms hd => ?_)
                        show V K 7 (mkM am hn ms) 276 [(3, .int v105), (0, .ref am), (1, .int v1), (2, .int v2)] [.int (b2i v108)]
                        refine v_ifZ_ne (tgt := 281) X dX10_readDoor_276 (by decide) (fun q => ?_) (fun q => ?_)
                        · have hd := Tcnd_t q hd
                          refine v_aload_n X dX10_readDoor_281 1 0 rfl rfl ?_
                          refine t_getA (j := 2) X rfl fl_X10_16 dX10_readDoor_282 ?_
                          refine v_iload_n X dX10_readDoor_285 3 2 rfl rfl ?_
                          refine v_iconst (v := 4) X dX10_readDoor_286 (by decide) ?_
                          refine v_iadd X dX10_readDoor_287 ?_
                          refine v_aload_n X dX10_readDoor_288 1 0 rfl rfl ?_
                          refine t_getI X hd rfl fl_X10_191 dX10_readDoor_289 (fun v109 hd => ?_)
                          refine t_iast (j := 2) X hd rfl dX10_readDoor_292 (fun ms hd => ?_)
                          refine v_aload_n X dX10_readDoor_293 1 0 rfl rfl ?_
                          refine t_getA (j := 2) X rfl fl_X10_16 dX10_readDoor_294 ?_
                          refine v_iload_n X dX10_readDoor_297 3 2 rfl rfl ?_
                          refine v_iconst (v := 5) X dX10_readDoor_298 (by decide) ?_
                          refine v_iadd X dX10_readDoor_299 ?_
                          refine v_iconst (v := 1) X dX10_readDoor_300 (by decide) ?_
                          refine v_aload_n X dX10_readDoor_301 1 0 rfl rfl ?_
                          refine t_getI X hd rfl fl_X10_191 dX10_readDoor_302 (fun v110 hd => ?_)
                          refine v_ishl X dX10_readDoor_305 ?_
                          refine t_iast (j := 2) X hd rfl dX10_readDoor_306 (fun ms hd => ?_)
                          refine v_loc [1, 2, 3] rfl ?_
                          refine Tloop_ind hd (fun (s111 : Unit) m => V K 7 (mkM am hn m) 307 [(0, .ref am), (1, .int v1), (2, .int v2)] []) (fun s111 ms x m2 hd ih112 ho113 => ?_)
                          refine v_aload_n X dX10_readDoor_307 0 0 rfl rfl ?_
                          refine v_bipush (v := 6) X dX10_readDoor_308 (by decide) ?_
                          refine t_callV X hK hd (ct_X10_isWord _ am 6) (lw_V q1896 q1898 qs42 q120 q1899) ⟨rfl, dn_X10_isWord⟩ rfl ⟨by decide, by decide⟩ rfl (Nat.le_of_ble_eq_true rfl) dX10_readDoor_310 (fun v114 ms hd => ?_)
                          show V K 7 (mkM am hn ms) 313 [(0, .ref am), (1, .int v1), (2, .int v2)] [.int (b2i v114)]
                          refine v_ifZ_eq (tgt := 396) X dX10_readDoor_313 (by decide) (fun q => ?_) (fun q => ?_)
                          · have hd := Tcnd_f q hd
                            refine v_aload_n X dX10_readDoor_396 0 0 rfl rfl ?_
                            refine t_getA (j := 2) X rfl fl_X10_16 dX10_readDoor_397 ?_
                            refine v_iload_n X dX10_readDoor_400 2 2 rfl rfl ?_
                            refine v_bipush (v := 6) X dX10_readDoor_401 (by decide) ?_
                            refine v_iadd X dX10_readDoor_403 ?_
                            refine v_iconst (v := 1) X dX10_readDoor_404 (by decide) ?_
                            refine t_iast (j := 2) X hd rfl dX10_readDoor_405 (fun ms hd => ?_)
                            refine v_aload_n X dX10_readDoor_406 0 0 rfl rfl ?_
                            refine v_bipush (v := 7) X dX10_readDoor_407 (by decide) ?_
                            refine t_callV X hK hd (ct_X10_isWord _ am 7) (lw_V q1896 q1898 qs42 q120 q1899) ⟨rfl, dn_X10_isWord⟩ rfl ⟨by decide, by decide⟩ rfl (Nat.le_of_ble_eq_true rfl) dX10_readDoor_409 (fun v115 ms hd => ?_)
                            show V K 7 (mkM am hn ms) 412 [(0, .ref am), (1, .int v1), (2, .int v2)] [.int (b2i v115)]
                            refine v_ifZ_eq (tgt := 444) X dX10_readDoor_412 (by decide) (fun q => ?_) (fun q => ?_)
                            · have hd := Tcnd_f q hd
                              refine v_aload_n X dX10_readDoor_444 0 0 rfl rfl ?_
                              refine t_getA (j := 2) X rfl fl_X10_16 dX10_readDoor_445 ?_
                              refine v_iload_n X dX10_readDoor_448 2 2 rfl rfl ?_
                              refine v_bipush (v := 7) X dX10_readDoor_449 (by decide) ?_
                              refine v_iadd X dX10_readDoor_451 ?_
                              refine v_aload_n X dX10_readDoor_452 0 0 rfl rfl ?_
                              refine v_bipush (v := 8) X dX10_readDoor_453 (by decide) ?_
                              refine t_callV X hK hd (ct_X10_isWord _ am 8) (lw_V q1896 q1898 qs42 q120 q1899) ⟨rfl, dn_X10_isWord⟩ rfl ⟨by decide, by decide⟩ rfl (Nat.le_of_ble_eq_true rfl) dX10_readDoor_455 (fun v116 ms hd => ?_)
                              show V K 7 (mkM am hn ms) 458 [(0, .ref am), (1, .int v1), (2, .int v2)] [.int (b2i v116), .int (v2 + 7), .ref (am + (2 + 1))]
                              obtain ⟨u117, m1, hd, hd2⟩ := TM.bind_some hd
                              have KJ : V K 7 (mkM am hn m1) 466 [(0, .ref am), (1, .int v1), (2, .int v2)] [.int (b2i u117), .int (v2 + 7), .ref (am + (2 + 1))] := by
                                clear hd
                                have hd := hd2
                                refine t_iast (j := 2) X hd rfl dX10_readDoor_466 (fun ms hd => ?_)
                                refine v_aload_n X dX10_readDoor_467 0 0 rfl rfl ?_
                                refine v_bipush (v := 8) X dX10_readDoor_468 (by decide) ?_
                                refine t_callV X hK hd (ct_X10_isWord _ am 8) (lw_V q1896 q1898 qs42 q120 q1899) ⟨rfl, dn_X10_isWord⟩ rfl ⟨by decide, by decide⟩ rfl (Nat.le_of_ble_eq_true rfl) dX10_readDoor_470 (fun v118 ms hd => ?_)
                                show V K 7 (mkM am hn ms) 473 [(0, .ref am), (1, .int v1), (2, .int v2)] [.int (b2i v118)]
                                obtain ⟨u119, m1, hd, hd2⟩ := TM.bind_some hd
                                have KJ : V K 7 (mkM am hn m1) 480 [(0, .ref am), (1, .int v1), (2, .int v2)] [] := by
                                  clear hd
                                  have hd := hd2
                                  refine v_iconst (v := 0) X dX10_readDoor_480 (by decide) ?_
                                  refine v_istore (lv2 := [(4, .int 0), (0, .ref am), (1, .int v1), (2, .int v2)]) X dX10_readDoor_481 (by decide) rfl ?_
                                  obtain ⟨e123, m1, hd, hd2⟩ := TM.bind_some hd
                                  have KX : V K 7 (mkM am hn m1) 579 [(0, .ref am)] [] := by
                                    clear hd
                                    have hd := hd2
                                    refine v_aload_n X dX10_readDoor_579 0 0 rfl rfl ?_
                                    refine t_getA (j := 2) X rfl fl_X10_16 dX10_readDoor_580 ?_
                                    refine v_iconst (v := 2) X dX10_readDoor_583 (by decide) ?_
                                    refine v_dup2 X dX10_readDoor_584 rfl rfl ?_
                                    refine t_iald (j := 2) X hd rfl dX10_readDoor_585 (fun v134 hd => ?_)
                                    refine v_iconst (v := 1) X dX10_readDoor_586 (by decide) ?_
                                    refine v_iadd X dX10_readDoor_587 ?_
                                    refine t_iast (j := 2) X hd rfl dX10_readDoor_588 (fun ms hd => ?_)
                                    refine v_iconst (v := 1) X dX10_readDoor_589 (by decide) ?_
                                    have hd := Tlp_out hd ho113
                                    exact t_zret X hK hd rfl ho dX10_readDoor_590
                                  clear hd2
                                  refine v_loc [1, 2, 3, 0] rfl ?_
                                  refine Tloop_ind hd (fun (s120 : Int32) m => V K 7 (mkM am hn m) 483 [(0, .ref am), (1, .int v1), (2, .int v2), (4, .int s120)] []) (fun s120 ms x m2 hd ih121 ho122 => ?_)
                                  refine v_iload X dX10_readDoor_483 3 rfl ?_
                                  refine v_aload_n X dX10_readDoor_485 0 0 rfl rfl ?_
                                  refine t_getA (j := 2) X rfl fl_X10_16 dX10_readDoor_486 ?_
                                  refine v_iload_n X dX10_readDoor_489 2 2 rfl rfl ?_
                                  refine v_iconst (v := 3) X dX10_readDoor_490 (by decide) ?_
                                  refine v_iadd X dX10_readDoor_491 ?_
                                  refine t_iald (j := 2) X hd rfl dX10_readDoor_492 (fun v124 hd => ?_)
                                  refine v_icmp_ge (tgt := 579) X dX10_readDoor_493 (by decide) (fun q => ?_) (fun q => ?_)
                                  · have hd := Tite_t q hd
                                    exact v_loc [0] rfl (t_at (P := fun (e123 : Unit) m => V K 7 (mkM am hn m) 579 [(0, .ref am)] []) (Tlp_out hd ho122) KX)
                                  · have hd := Tite_f q hd
                                    refine v_aload_n X dX10_readDoor_496 0 0 rfl rfl ?_
                                    refine t_getA (j := 2) X rfl fl_X10_16 dX10_readDoor_497 ?_
                                    refine v_iload_n X dX10_readDoor_500 2 2 rfl rfl ?_
                                    refine v_iconst (v := 0) X dX10_readDoor_501 (by decide) ?_
                                    refine v_iadd X dX10_readDoor_502 ?_
                                    refine t_iald (j := 2) X hd rfl dX10_readDoor_503 (fun v125 hd => ?_)
                                    refine v_aload_n X dX10_readDoor_504 0 0 rfl rfl ?_
                                    refine t_getA (j := 2) X rfl fl_X10_16 dX10_readDoor_505 ?_
                                    refine v_iload_n X dX10_readDoor_508 2 2 rfl rfl ?_
                                    refine v_iconst (v := 2) X dX10_readDoor_509 (by decide) ?_
                                    refine v_iadd X dX10_readDoor_510 ?_
                                    refine t_iald (j := 2) X hd rfl dX10_readDoor_511 (fun v126 hd => ?_)
                                    obtain ⟨u127, m1, hd, hd2⟩ := TM.bind_some hd
                                    have KJ : V K 7 (mkM am hn m1) 521 [(0, .ref am), (1, .int v1), (2, .int v2), (4, .int s120)] [.int u127, .int v125] := by
                                      clear hd
                                      have hd := hd2
                                      refine v_iadd X dX10_readDoor_521 ?_
                                      refine t_lvI hd (fun v128 hd => ?_)
                                      refine v_istore (lv2 := [(5, .int v128), (0, .ref am), (1, .int v1), (2, .int v2), (4, .int s120)]) X dX10_readDoor_522 (by decide) rfl ?_
                                      refine v_aload_n X dX10_readDoor_524 1 0 rfl rfl ?_
                                      refine t_getA (j := 2) X rfl fl_X10_16 dX10_readDoor_525 ?_
                                      refine v_iload_n X dX10_readDoor_528 3 2 rfl rfl ?_
                                      refine v_iconst (v := 1) X dX10_readDoor_529 (by decide) ?_
                                      refine v_iadd X dX10_readDoor_530 ?_
                                      refine t_iald (j := 2) X hd rfl dX10_readDoor_531 (fun v129 hd => ?_)
                                      refine v_aload_n X dX10_readDoor_532 1 0 rfl rfl ?_
                                      refine t_getA (j := 2) X rfl fl_X10_16 dX10_readDoor_533 ?_
                                      refine v_iload_n X dX10_readDoor_536 3 2 rfl rfl ?_
                                      refine v_iconst (v := 2) X dX10_readDoor_537 (by decide) ?_
                                      refine v_iadd X dX10_readDoor_538 ?_
                                      refine t_iald (j := 2) X hd rfl dX10_readDoor_539 (fun v130 hd => ?_)
                                      refine v_iconst (v := 1) X dX10_readDoor_540 (by decide) ?_
                                      obtain ⟨u131, m1, hd, hd2⟩ := TM.bind_some hd
                                      have KJ : V K 7 (mkM am hn m1) 550 [(0, .ref am), (1, .int v1), (2, .int v2), (4, .int s120), (5, .int v128)] [.int u131, .int v129] := by
                                        clear hd
                                        have hd := hd2
                                        refine v_iadd X dX10_readDoor_550 ?_
                                        refine t_lvI hd (fun v132 hd => ?_)
                                        refine v_istore (lv2 := [(6, .int v132), (0, .ref am), (1, .int v1), (2, .int v2), (4, .int s120), (5, .int v128)]) X dX10_readDoor_551 (by decide) rfl ?_
                                        refine v_aload_n X dX10_readDoor_553 1 0 rfl rfl ?_
                                        refine t_getA (j := 2) X rfl fl_X10_16 dX10_readDoor_554 ?_
                                        refine v_sipush (v := 210) X dX10_readDoor_557 (by decide) ?_
                                        refine v_bipush (v := 10) X dX10_readDoor_560 (by decide) ?_
                                        refine v_iload X dX10_readDoor_562 0 rfl ?_
                                        refine v_imul X dX10_readDoor_564 ?_
                                        refine v_iadd X dX10_readDoor_565 ?_
                                        refine v_iload X dX10_readDoor_566 5 rfl ?_
                                        refine v_iadd X dX10_readDoor_568 ?_
                                        refine v_iload_n X dX10_readDoor_569 2 1 rfl rfl ?_
                                        refine v_iconst (v := 1) X dX10_readDoor_570 (by decide) ?_
                                        refine v_iadd X dX10_readDoor_571 ?_
                                        refine t_iast (j := 2) X hd rfl dX10_readDoor_572 (fun ms hd => ?_)
                                        refine t_iincL (lv2 := fun v133 => [(4, .int v133), (6, .int v132), (0, .ref am), (1, .int v1), (2, .int v2), (5, .int v128)]) X hd dX10_readDoor_573 4 rfl (by decide : Int32.ofInt 1 = 1) (by decide) (fun v133 => rfl) (fun v133 hd => ?_)
                                        refine v_goto (tgt := 483) X dX10_readDoor_576 (by decide) ?_
                                        exact v_loc [2, 3, 4, 0] rfl (Tlp_in (P := fun (s120 : Int32) m => V K 7 (mkM am hn m) 483 [(0, .ref am), (1, .int v1), (2, .int v2), (4, .int s120)] []) hd ih121)
                                      clear hd2
                                      refine v_icmp_ne (tgt := 549) X dX10_readDoor_541 (by decide) (fun q => ?_) (fun q => ?_)
                                      · have hd := Tite_f q hd
                                        refine v_iconst (v := 0) X dX10_readDoor_549 (by decide) ?_
                                        exact v_loc [1, 2, 3, 4, 0] rfl (t_at (P := fun (u131 : Int32) m => V K 7 (mkM am hn m) 550 [(0, .ref am), (1, .int v1), (2, .int v2), (4, .int s120), (5, .int v128)] [.int u131, .int v129]) hd KJ)
                                      · have hd := Tite_t q hd
                                        refine v_iload X dX10_readDoor_544 4 rfl ?_
                                        refine v_goto (tgt := 550) X dX10_readDoor_546 (by decide) ?_
                                        exact v_loc [1, 2, 3, 4, 0] rfl (t_at (P := fun (u131 : Int32) m => V K 7 (mkM am hn m) 550 [(0, .ref am), (1, .int v1), (2, .int v2), (4, .int s120), (5, .int v128)] [.int u131, .int v129]) hd KJ)
                                    clear hd2
                                    refine v_if_ne (tgt := 520) X dX10_readDoor_512 (by decide) (fun q => ?_) (fun q => ?_)
                                    · have hd := Tite_f q hd
                                      refine v_iconst (v := 0) X dX10_readDoor_520 (by decide) ?_
                                      exact v_loc [0, 1, 2, 3] rfl (t_at (P := fun (u127 : Int32) m => V K 7 (mkM am hn m) 521 [(0, .ref am), (1, .int v1), (2, .int v2), (4, .int s120)] [.int u127, .int v125]) hd KJ)
                                    · have hd := Tite_t q hd
                                      refine v_iload X dX10_readDoor_515 3 rfl ?_
                                      refine v_goto (tgt := 521) X dX10_readDoor_517 (by decide) ?_
                                      exact v_loc [0, 1, 2, 3] rfl (t_at (P := fun (u127 : Int32) m => V K 7 (mkM am hn m) 521 [(0, .ref am), (1, .int v1), (2, .int v2), (4, .int s120)] [.int u127, .int v125]) hd KJ)
                                clear hd2
                                refine v_ifZ_eq (tgt := 480) X dX10_readDoor_473 (by decide) (fun q => ?_) (fun q => ?_)
                                · have hd := Tcnd_f q hd
                                  exact v_loc [0, 1, 2] rfl (t_at (P := fun (u119 : Unit) m => V K 7 (mkM am hn m) 480 [(0, .ref am), (1, .int v1), (2, .int v2)] []) hd KJ)
                                · have hd := Tcnd_t q hd
                                  refine v_aload_n X dX10_readDoor_476 0 0 rfl rfl ?_
                                  refine t_callV X hK hd (ct_X10_go _ am) (lw_V q1876 q1878 qs39 q120 q1879) ⟨rfl, dn_X10_go⟩ rfl ⟨by decide, by decide⟩ rfl (Nat.le_of_ble_eq_true rfl) dX10_readDoor_477 (fun v135 ms hd => ?_)
                                  show V K 7 (mkM am hn ms) 480 [(0, .ref am), (1, .int v1), (2, .int v2)] []
                                  exact v_loc [0, 1, 2] rfl (t_at (P := fun (u119 : Unit) m => V K 7 (mkM am hn m) 480 [(0, .ref am), (1, .int v1), (2, .int v2)] []) hd KJ)
                              clear hd2
                              refine v_ifZ_eq (tgt := 465) X dX10_readDoor_458 (by decide) (fun q => ?_) (fun q => ?_)
                              · have hd := Tcnd_f q hd
                                refine v_iconst (v := 0) X dX10_readDoor_465 (by decide) ?_
                                exact v_loc [0, 1, 2] rfl (t_at (P := fun (u117 : Bool) m => V K 7 (mkM am hn m) 466 [(0, .ref am), (1, .int v1), (2, .int v2)] [.int (b2i u117), .int (v2 + 7), .ref (am + (2 + 1))]) hd KJ)
                              · have hd := Tcnd_t q hd
                                refine v_iconst (v := 1) X dX10_readDoor_461 (by decide) ?_
                                refine v_goto (tgt := 466) X dX10_readDoor_462 (by decide) ?_
                                exact v_loc [0, 1, 2] rfl (t_at (P := fun (u117 : Bool) m => V K 7 (mkM am hn m) 466 [(0, .ref am), (1, .int v1), (2, .int v2)] [.int (b2i u117), .int (v2 + 7), .ref (am + (2 + 1))]) hd KJ)
                            · have hd := Tcnd_t q hd
                              refine v_aload_n X dX10_readDoor_415 0 0 rfl rfl ?_
                              refine t_callV X hK hd (ct_X10_go _ am) (lw_V q1876 q1878 qs39 q120 q1879) ⟨rfl, dn_X10_go⟩ rfl ⟨by decide, by decide⟩ rfl (Nat.le_of_ble_eq_true rfl) dX10_readDoor_416 (fun v136 ms hd => ?_)
                              show V K 7 (mkM am hn ms) 419 [(0, .ref am), (1, .int v1), (2, .int v2)] []
                              refine v_aload_n X dX10_readDoor_419 0 0 rfl rfl ?_
                              refine v_iconst (v := 1) X dX10_readDoor_420 (by decide) ?_
                              refine v_bipush (v := 99) X dX10_readDoor_421 (by decide) ?_
                              refine t_callV X hK hd (ct_X10_readNumber _ am 1 99) (lw_V q1936 q1938 qs49 q120 q1939) ⟨rfl, dn_X10_readNumber⟩ rfl ⟨by decide, by decide⟩ rfl (Nat.le_of_ble_eq_true rfl) dX10_readDoor_423 (fun v137 ms hd => ?_)
                              show V K 7 (mkM am hn ms) 426 [(0, .ref am), (1, .int v1), (2, .int v2)] [.int (b2i v137)]
                              refine v_ifZ_ne (tgt := 431) X dX10_readDoor_426 (by decide) (fun q => ?_) (fun q => ?_)
                              · have hd := Tcnd_t q hd
                                refine v_aload_n X dX10_readDoor_431 0 0 rfl rfl ?_
                                refine t_getA (j := 2) X rfl fl_X10_16 dX10_readDoor_432 ?_
                                refine v_iload_n X dX10_readDoor_435 2 2 rfl rfl ?_
                                refine v_bipush (v := 6) X dX10_readDoor_436 (by decide) ?_
                                refine v_iadd X dX10_readDoor_438 ?_
                                refine v_aload_n X dX10_readDoor_439 0 0 rfl rfl ?_
                                refine t_getI X hd rfl fl_X10_191 dX10_readDoor_440 (fun v138 hd => ?_)
                                refine t_iast (j := 2) X hd rfl dX10_readDoor_443 (fun ms hd => ?_)
                                refine v_aload_n X dX10_readDoor_444 0 0 rfl rfl ?_
                                refine t_getA (j := 2) X rfl fl_X10_16 dX10_readDoor_445 ?_
                                refine v_iload_n X dX10_readDoor_448 2 2 rfl rfl ?_
                                refine v_bipush (v := 7) X dX10_readDoor_449 (by decide) ?_
                                refine v_iadd X dX10_readDoor_451 ?_
                                refine v_aload_n X dX10_readDoor_452 0 0 rfl rfl ?_
                                refine v_bipush (v := 8) X dX10_readDoor_453 (by decide) ?_
                                refine t_callV X hK hd (ct_X10_isWord _ am 8) (lw_V q1896 q1898 qs42 q120 q1899) ⟨rfl, dn_X10_isWord⟩ rfl ⟨by decide, by decide⟩ rfl (Nat.le_of_ble_eq_true rfl) dX10_readDoor_455 (fun v139 ms hd => ?_)
                                show V K 7 (mkM am hn ms) 458 [(0, .ref am), (1, .int v1), (2, .int v2)] [.int (b2i v139), .int (v2 + 7), .ref (am + (2 + 1))]
                                obtain ⟨u140, m1, hd, hd2⟩ := TM.bind_some hd
                                have KJ : V K 7 (mkM am hn m1) 466 [(0, .ref am), (1, .int v1), (2, .int v2)] [.int (b2i u140), .int (v2 + 7), .ref (am + (2 + 1))] := by
                                  clear hd
                                  have hd := hd2
                                  refine t_iast (j := 2) X hd rfl dX10_readDoor_466 (fun ms hd => ?_)
                                  refine v_aload_n X dX10_readDoor_467 0 0 rfl rfl ?_
                                  refine v_bipush (v := 8) X dX10_readDoor_468 (by decide) ?_
                                  refine t_callV X hK hd (ct_X10_isWord _ am 8) (lw_V q1896 q1898 qs42 q120 q1899) ⟨rfl, dn_X10_isWord⟩ rfl ⟨by decide, by decide⟩ rfl (Nat.le_of_ble_eq_true rfl) dX10_readDoor_470 (fun v141 ms hd => ?_)
                                  show V K 7 (mkM am hn ms) 473 [(0, .ref am), (1, .int v1), (2, .int v2)] [.int (b2i v141)]
                                  obtain ⟨u142, m1, hd, hd2⟩ := TM.bind_some hd
                                  have KJ : V K 7 (mkM am hn m1) 480 [(0, .ref am), (1, .int v1), (2, .int v2)] [] := by
                                    clear hd
                                    have hd := hd2
                                    refine v_iconst (v := 0) X dX10_readDoor_480 (by decide) ?_
                                    refine v_istore (lv2 := [(4, .int 0), (0, .ref am), (1, .int v1), (2, .int v2)]) X dX10_readDoor_481 (by decide) rfl ?_
                                    obtain ⟨e146, m1, hd, hd2⟩ := TM.bind_some hd
                                    have KX : V K 7 (mkM am hn m1) 579 [(0, .ref am)] [] := by
                                      clear hd
                                      have hd := hd2
                                      refine v_aload_n X dX10_readDoor_579 0 0 rfl rfl ?_
                                      refine t_getA (j := 2) X rfl fl_X10_16 dX10_readDoor_580 ?_
                                      refine v_iconst (v := 2) X dX10_readDoor_583 (by decide) ?_
                                      refine v_dup2 X dX10_readDoor_584 rfl rfl ?_
                                      refine t_iald (j := 2) X hd rfl dX10_readDoor_585 (fun v157 hd => ?_)
                                      refine v_iconst (v := 1) X dX10_readDoor_586 (by decide) ?_
                                      refine v_iadd X dX10_readDoor_587 ?_
                                      refine t_iast (j := 2) X hd rfl dX10_readDoor_588 (fun ms hd => ?_)
                                      refine v_iconst (v := 1) X dX10_readDoor_589 (by decide) ?_
                                      have hd := Tlp_out hd ho113
                                      exact t_zret X hK hd rfl ho dX10_readDoor_590
                                    clear hd2
                                    refine v_loc [1, 2, 3, 0] rfl ?_
                                    refine Tloop_ind hd (fun (s143 : Int32) m => V K 7 (mkM am hn m) 483 [(0, .ref am), (1, .int v1), (2, .int v2), (4, .int s143)] []) (fun s143 ms x m2 hd ih144 ho145 => ?_)
                                    refine v_iload X dX10_readDoor_483 3 rfl ?_
                                    refine v_aload_n X dX10_readDoor_485 0 0 rfl rfl ?_
                                    refine t_getA (j := 2) X rfl fl_X10_16 dX10_readDoor_486 ?_
                                    refine v_iload_n X dX10_readDoor_489 2 2 rfl rfl ?_
                                    refine v_iconst (v := 3) X dX10_readDoor_490 (by decide) ?_
                                    refine v_iadd X dX10_readDoor_491 ?_
                                    refine t_iald (j := 2) X hd rfl dX10_readDoor_492 (fun v147 hd => ?_)
                                    refine v_icmp_ge (tgt := 579) X dX10_readDoor_493 (by decide) (fun q => ?_) (fun q => ?_)
                                    · have hd := Tite_t q hd
                                      exact v_loc [0] rfl (t_at (P := fun (e146 : Unit) m => V K 7 (mkM am hn m) 579 [(0, .ref am)] []) (Tlp_out hd ho145) KX)
                                    · have hd := Tite_f q hd
                                      refine v_aload_n X dX10_readDoor_496 0 0 rfl rfl ?_
                                      refine t_getA (j := 2) X rfl fl_X10_16 dX10_readDoor_497 ?_
                                      refine v_iload_n X dX10_readDoor_500 2 2 rfl rfl ?_
                                      refine v_iconst (v := 0) X dX10_readDoor_501 (by decide) ?_
                                      refine v_iadd X dX10_readDoor_502 ?_
                                      refine t_iald (j := 2) X hd rfl dX10_readDoor_503 (fun v148 hd => ?_)
                                      refine v_aload_n X dX10_readDoor_504 0 0 rfl rfl ?_
                                      refine t_getA (j := 2) X rfl fl_X10_16 dX10_readDoor_505 ?_
                                      refine v_iload_n X dX10_readDoor_508 2 2 rfl rfl ?_
                                      refine v_iconst (v := 2) X dX10_readDoor_509 (by decide) ?_
                                      refine v_iadd X dX10_readDoor_510 ?_
                                      refine t_iald (j := 2) X hd rfl dX10_readDoor_511 (fun v149 hd => ?_)
                                      obtain ⟨u150, m1, hd, hd2⟩ := TM.bind_some hd
                                      have KJ : V K 7 (mkM am hn m1) 521 [(0, .ref am), (1, .int v1), (2, .int v2), (4, .int s143)] [.int u150, .int v148] := by
                                        clear hd
                                        have hd := hd2
                                        refine v_iadd X dX10_readDoor_521 ?_
                                        refine t_lvI hd (fun v151 hd => ?_)
                                        refine v_istore (lv2 := [(5, .int v151), (0, .ref am), (1, .int v1), (2, .int v2), (4, .int s143)]) X dX10_readDoor_522 (by decide) rfl ?_
                                        refine v_aload_n X dX10_readDoor_524 1 0 rfl rfl ?_
                                        refine t_getA (j := 2) X rfl fl_X10_16 dX10_readDoor_525 ?_
                                        refine v_iload_n X dX10_readDoor_528 3 2 rfl rfl ?_
                                        refine v_iconst (v := 1) X dX10_readDoor_529 (by decide) ?_
                                        refine v_iadd X dX10_readDoor_530 ?_
                                        refine t_iald (j := 2) X hd rfl dX10_readDoor_531 (fun v152 hd => ?_)
                                        refine v_aload_n X dX10_readDoor_532 1 0 rfl rfl ?_
                                        refine t_getA (j := 2) X rfl fl_X10_16 dX10_readDoor_533 ?_
                                        refine v_iload_n X dX10_readDoor_536 3 2 rfl rfl ?_
                                        refine v_iconst (v := 2) X dX10_readDoor_537 (by decide) ?_
                                        refine v_iadd X dX10_readDoor_538 ?_
                                        refine t_iald (j := 2) X hd rfl dX10_readDoor_539 (fun v153 hd => ?_)
                                        refine v_iconst (v := 1) X dX10_readDoor_540 (by decide) ?_
                                        obtain ⟨u154, m1, hd, hd2⟩ := TM.bind_some hd
                                        have KJ : V K 7 (mkM am hn m1) 550 [(0, .ref am), (1, .int v1), (2, .int v2), (4, .int s143), (5, .int v151)] [.int u154, .int v152] := by
                                          clear hd
                                          have hd := hd2
                                          refine v_iadd X dX10_readDoor_550 ?_
                                          refine t_lvI hd (fun v155 hd => ?_)
                                          refine v_istore (lv2 := [(6, .int v155), (0, .ref am), (1, .int v1), (2, .int v2), (4, .int s143), (5, .int v151)]) X dX10_readDoor_551 (by decide) rfl ?_
                                          refine v_aload_n X dX10_readDoor_553 1 0 rfl rfl ?_
                                          refine t_getA (j := 2) X rfl fl_X10_16 dX10_readDoor_554 ?_
                                          refine v_sipush (v := 210) X dX10_readDoor_557 (by decide) ?_
                                          refine v_bipush (v := 10) X dX10_readDoor_560 (by decide) ?_
                                          refine v_iload X dX10_readDoor_562 0 rfl ?_
                                          refine v_imul X dX10_readDoor_564 ?_
                                          refine v_iadd X dX10_readDoor_565 ?_
                                          refine v_iload X dX10_readDoor_566 5 rfl ?_
                                          refine v_iadd X dX10_readDoor_568 ?_
                                          refine v_iload_n X dX10_readDoor_569 2 1 rfl rfl ?_
                                          refine v_iconst (v := 1) X dX10_readDoor_570 (by decide) ?_
                                          refine v_iadd X dX10_readDoor_571 ?_
                                          refine t_iast (j := 2) X hd rfl dX10_readDoor_572 (fun ms hd => ?_)
                                          refine t_iincL (lv2 := fun v156 => [(4, .int v156), (6, .int v155), (0, .ref am), (1, .int v1), (2, .int v2), (5, .int v151)]) X hd dX10_readDoor_573 4 rfl (by decide : Int32.ofInt 1 = 1) (by decide) (fun v156 => rfl) (fun v156 hd => ?_)
                                          refine v_goto (tgt := 483) X dX10_readDoor_576 (by decide) ?_
                                          exact v_loc [2, 3, 4, 0] rfl (Tlp_in (P := fun (s143 : Int32) m => V K 7 (mkM am hn m) 483 [(0, .ref am), (1, .int v1), (2, .int v2), (4, .int s143)] []) hd ih144)
                                        clear hd2
                                        refine v_icmp_ne (tgt := 549) X dX10_readDoor_541 (by decide) (fun q => ?_) (fun q => ?_)
                                        · have hd := Tite_f q hd
                                          refine v_iconst (v := 0) X dX10_readDoor_549 (by decide) ?_
                                          exact v_loc [1, 2, 3, 4, 0] rfl (t_at (P := fun (u154 : Int32) m => V K 7 (mkM am hn m) 550 [(0, .ref am), (1, .int v1), (2, .int v2), (4, .int s143), (5, .int v151)] [.int u154, .int v152]) hd KJ)
                                        · have hd := Tite_t q hd
                                          refine v_iload X dX10_readDoor_544 4 rfl ?_
                                          refine v_goto (tgt := 550) X dX10_readDoor_546 (by decide) ?_
                                          exact v_loc [1, 2, 3, 4, 0] rfl (t_at (P := fun (u154 : Int32) m => V K 7 (mkM am hn m) 550 [(0, .ref am), (1, .int v1), (2, .int v2), (4, .int s143), (5, .int v151)] [.int u154, .int v152]) hd KJ)
                                      clear hd2
                                      refine v_if_ne (tgt := 520) X dX10_readDoor_512 (by decide) (fun q => ?_) (fun q => ?_)
                                      · have hd := Tite_f q hd
                                        refine v_iconst (v := 0) X dX10_readDoor_520 (by decide) ?_
                                        exact v_loc [0, 1, 2, 3] rfl (t_at (P := fun (u150 : Int32) m => V K 7 (mkM am hn m) 521 [(0, .ref am), (1, .int v1), (2, .int v2), (4, .int s143)] [.int u150, .int v148]) hd KJ)
                                      · have hd := Tite_t q hd
                                        refine v_iload X dX10_readDoor_515 3 rfl ?_
                                        refine v_goto (tgt := 521) X dX10_readDoor_517 (by decide) ?_
                                        exact v_loc [0, 1, 2, 3] rfl (t_at (P := fun (u150 : Int32) m => V K 7 (mkM am hn m) 521 [(0, .ref am), (1, .int v1), (2, .int v2), (4, .int s143)] [.int u150, .int v148]) hd KJ)
                                  clear hd2
                                  refine v_ifZ_eq (tgt := 480) X dX10_readDoor_473 (by decide) (fun q => ?_) (fun q => ?_)
                                  · have hd := Tcnd_f q hd
                                    exact v_loc [0, 1, 2] rfl (t_at (P := fun (u142 : Unit) m => V K 7 (mkM am hn m) 480 [(0, .ref am), (1, .int v1), (2, .int v2)] []) hd KJ)
                                  · have hd := Tcnd_t q hd
                                    refine v_aload_n X dX10_readDoor_476 0 0 rfl rfl ?_
                                    refine t_callV X hK hd (ct_X10_go _ am) (lw_V q1876 q1878 qs39 q120 q1879) ⟨rfl, dn_X10_go⟩ rfl ⟨by decide, by decide⟩ rfl (Nat.le_of_ble_eq_true rfl) dX10_readDoor_477 (fun v158 ms hd => ?_)
                                    show V K 7 (mkM am hn ms) 480 [(0, .ref am), (1, .int v1), (2, .int v2)] []
                                    exact v_loc [0, 1, 2] rfl (t_at (P := fun (u142 : Unit) m => V K 7 (mkM am hn m) 480 [(0, .ref am), (1, .int v1), (2, .int v2)] []) hd KJ)
                                clear hd2
                                refine v_ifZ_eq (tgt := 465) X dX10_readDoor_458 (by decide) (fun q => ?_) (fun q => ?_)
                                · have hd := Tcnd_f q hd
                                  refine v_iconst (v := 0) X dX10_readDoor_465 (by decide) ?_
                                  exact v_loc [0, 1, 2] rfl (t_at (P := fun (u140 : Bool) m => V K 7 (mkM am hn m) 466 [(0, .ref am), (1, .int v1), (2, .int v2)] [.int (b2i u140), .int (v2 + 7), .ref (am + (2 + 1))]) hd KJ)
                                · have hd := Tcnd_t q hd
                                  refine v_iconst (v := 1) X dX10_readDoor_461 (by decide) ?_
                                  refine v_goto (tgt := 466) X dX10_readDoor_462 (by decide) ?_
                                  exact v_loc [0, 1, 2] rfl (t_at (P := fun (u140 : Bool) m => V K 7 (mkM am hn m) 466 [(0, .ref am), (1, .int v1), (2, .int v2)] [.int (b2i u140), .int (v2 + 7), .ref (am + (2 + 1))]) hd KJ)
                              · have hd := Tcnd_f q hd
                                refine v_iconst (v := 0) X dX10_readDoor_429 (by decide) ?_
                                have hd := Tlp_out hd ho113
                                exact t_zret X hK hd rfl ho dX10_readDoor_430
                          · have hd := Tcnd_t q hd
                            refine v_aload_n X dX10_readDoor_316 0 0 rfl rfl ?_
                            refine t_callV X hK hd (ct_X10_go _ am) (lw_V q1876 q1878 qs39 q120 q1879) ⟨rfl, dn_X10_go⟩ rfl ⟨by decide, by decide⟩ rfl (Nat.le_of_ble_eq_true rfl) dX10_readDoor_317 (fun v159 ms hd => ?_)
                            show V K 7 (mkM am hn ms) 320 [(0, .ref am), (1, .int v1), (2, .int v2)] []
                            refine v_aload_n X dX10_readDoor_320 0 0 rfl rfl ?_
                            refine t_getI X hd rfl fl_X10_131 dX10_readDoor_321 (fun v160 hd => ?_)
                            refine v_iconst (v := 3) X dX10_readDoor_324 (by decide) ?_
                            refine v_icmp_eq (tgt := 334) X dX10_readDoor_325 (by decide) (fun q => ?_) (fun q => ?_)
                            · have hd := Tite_t q hd
                              refine v_aload_n X dX10_readDoor_334 0 0 rfl rfl ?_
                              refine t_getI X hd rfl fl_X10_148 dX10_readDoor_335 (fun v161 hd => ?_)
                              refine v_iconst (v := 3) X dX10_readDoor_338 (by decide) ?_
                              refine v_icmp_le (tgt := 348) X dX10_readDoor_339 (by decide) (fun q => ?_) (fun q => ?_)
                              · have hd := Tite_t q hd
                                refine v_aload_n X dX10_readDoor_348 0 0 rfl rfl ?_
                                refine t_getA (j := 2) X rfl fl_X10_16 dX10_readDoor_349 ?_
                                refine v_iload_n X dX10_readDoor_352 2 2 rfl rfl ?_
                                refine v_iconst (v := 5) X dX10_readDoor_353 (by decide) ?_
                                refine v_iadd X dX10_readDoor_354 ?_
                                refine t_iald (j := 2) X hd rfl dX10_readDoor_355 (fun v162 hd => ?_)
                                refine v_aload_n X dX10_readDoor_356 0 0 rfl rfl ?_
                                refine t_getI X hd rfl fl_X10_148 dX10_readDoor_357 (fun v163 hd => ?_)
                                refine t_callS X hK hd (ct_X10_has _ am v162 v163) (lw_S q1947 q1948 q120 q1949) dn_X10_has rfl ⟨by decide, by decide⟩ rfl (Nat.le_of_ble_eq_true rfl) dX10_readDoor_360 (fun v164 ms hd => ?_)
                                show V K 7 (mkM am hn ms) 363 [(0, .ref am), (1, .int v1), (2, .int v2)] [.int (b2i v164)]
                                refine v_ifZ_eq (tgt := 372) X dX10_readDoor_363 (by decide) (fun q => ?_) (fun q => ?_)
                                · have hd := Tcnd_f q hd
                                  refine v_aload_n X dX10_readDoor_372 0 0 rfl rfl ?_
                                  refine t_getA (j := 2) X rfl fl_X10_16 dX10_readDoor_373 ?_
                                  refine v_iload_n X dX10_readDoor_376 2 2 rfl rfl ?_
                                  refine v_iconst (v := 5) X dX10_readDoor_377 (by decide) ?_
                                  refine v_iadd X dX10_readDoor_378 ?_
                                  refine v_dup2 X dX10_readDoor_379 rfl rfl ?_
                                  refine t_iald (j := 2) X hd rfl dX10_readDoor_380 (fun v165 hd => ?_)
                                  refine v_iconst (v := 1) X dX10_readDoor_381 (by decide) ?_
                                  refine v_aload_n X dX10_readDoor_382 0 0 rfl rfl ?_
                                  refine t_getI X hd rfl fl_X10_148 dX10_readDoor_383 (fun v166 hd => ?_)
                                  refine v_ishl X dX10_readDoor_386 ?_
                                  refine v_ior X dX10_readDoor_387 ?_
                                  refine t_iast (j := 2) X hd rfl dX10_readDoor_388 (fun ms hd => ?_)
                                  refine v_aload_n X dX10_readDoor_389 0 0 rfl rfl ?_
                                  refine t_callV X hK hd (ct_X10_go _ am) (lw_V q1876 q1878 qs39 q120 q1879) ⟨rfl, dn_X10_go⟩ rfl ⟨by decide, by decide⟩ rfl (Nat.le_of_ble_eq_true rfl) dX10_readDoor_390 (fun v167 ms hd => ?_)
                                  show V K 7 (mkM am hn ms) 393 [(0, .ref am), (1, .int v1), (2, .int v2)] []
                                  refine v_goto (tgt := 307) X dX10_readDoor_393 (by decide) ?_
                                  exact v_loc [0, 1, 2] rfl (Tlp_in (P := fun (s111 : Unit) m => V K 7 (mkM am hn m) 307 [(0, .ref am), (1, .int v1), (2, .int v2)] []) hd ih112)
                                · have hd := Tcnd_t q hd
                                  refine v_aload_n X dX10_readDoor_366 0 0 rfl rfl ?_
                                  refine v_iconst (v := 3) X dX10_readDoor_367 (by decide) ?_
                                  refine t_callV X hK hd (ct_X10_bad _ am 3) (lw_V q1913 q1915 qs44 q120 q1916) ⟨rfl, dn_X10_bad⟩ rfl ⟨by decide, by decide⟩ rfl (Nat.le_of_ble_eq_true rfl) dX10_readDoor_368 (fun v168 ms hd => ?_)
                                  show V K 7 (mkM am hn ms) 371 [(0, .ref am), (1, .int v1), (2, .int v2)] [.int (b2i v168)]
                                  have hd := Tlp_out hd ho113
                                  exact t_zret X hK hd rfl ho dX10_readDoor_371
                              · have hd := Tite_f q hd
                                refine v_aload_n X dX10_readDoor_342 0 0 rfl rfl ?_
                                refine v_iconst (v := 2) X dX10_readDoor_343 (by decide) ?_
                                refine t_callV X hK hd (ct_X10_bad _ am 2) (lw_V q1913 q1915 qs44 q120 q1916) ⟨rfl, dn_X10_bad⟩ rfl ⟨by decide, by decide⟩ rfl (Nat.le_of_ble_eq_true rfl) dX10_readDoor_344 (fun v169 ms hd => ?_)
                                show V K 7 (mkM am hn ms) 347 [(0, .ref am), (1, .int v1), (2, .int v2)] [.int (b2i v169)]
                                have hd := Tlp_out hd ho113
                                exact t_zret X hK hd rfl ho dX10_readDoor_347
                            · have hd := Tite_f q hd
                              refine v_aload_n X dX10_readDoor_328 0 0 rfl rfl ?_
                              refine v_iconst (v := 1) X dX10_readDoor_329 (by decide) ?_
                              refine t_callV X hK hd (ct_X10_bad _ am 1) (lw_V q1913 q1915 qs44 q120 q1916) ⟨rfl, dn_X10_bad⟩ rfl ⟨by decide, by decide⟩ rfl (Nat.le_of_ble_eq_true rfl) dX10_readDoor_330 (fun v170 ms hd => ?_)
                              show V K 7 (mkM am hn ms) 333 [(0, .ref am), (1, .int v1), (2, .int v2)] [.int (b2i v170)]
                              have hd := Tlp_out hd ho113
                              exact t_zret X hK hd rfl ho dX10_readDoor_333
                        · have hd := Tcnd_f q hd
                          refine v_iconst (v := 0) X dX10_readDoor_279 (by decide) ?_
                          exact t_zret X hK hd rfl ho dX10_readDoor_280
                      · have hd := Tite_f q hd
                        refine v_aload_n X dX10_readDoor_248 1 0 rfl rfl ?_
                        refine v_iload_n X dX10_readDoor_249 0 3 rfl rfl ?_
                        refine t_callV X hK hd (ct_X10_bad _ am v105) (lw_V q1913 q1915 qs44 q120 q1916) ⟨rfl, dn_X10_bad⟩ rfl ⟨by decide, by decide⟩ rfl (Nat.le_of_ble_eq_true rfl) dX10_readDoor_250 (fun v171 ms hd => ?_)
                        show V K 7 (mkM am hn ms) 253 [(3, .int v105), (0, .ref am), (1, .int v1), (2, .int v2)] [.int (b2i v171)]
                        exact t_zret X hK hd rfl ho dX10_readDoor_253
                    · have hd := Tcnd_f q hd
                      refine v_aload_n X dX10_readDoor_205 0 0 rfl rfl ?_
                      refine v_iconst (v := 2) X dX10_readDoor_206 (by decide) ?_
                      refine t_callV X hK hd (ct_X10_bad _ am 2) (lw_V q1913 q1915 qs44 q120 q1916) ⟨rfl, dn_X10_bad⟩ rfl ⟨by decide, by decide⟩ rfl (Nat.le_of_ble_eq_true rfl) dX10_readDoor_207 (fun v172 ms hd => ?_)
                      show V K 7 (mkM am hn ms) 210 [(0, .ref am), (1, .int v1), (2, .int v2)] [.int (b2i v172)]
                      exact t_zret X hK hd rfl ho dX10_readDoor_210
                  · have hd := Tite_f q hd
                    refine v_aload_n X dX10_readDoor_187 0 0 rfl rfl ?_
                    refine v_iconst (v := 1) X dX10_readDoor_188 (by decide) ?_
                    refine t_callV X hK hd (ct_X10_bad _ am 1) (lw_V q1913 q1915 qs44 q120 q1916) ⟨rfl, dn_X10_bad⟩ rfl ⟨by decide, by decide⟩ rfl (Nat.le_of_ble_eq_true rfl) dX10_readDoor_189 (fun v173 ms hd => ?_)
                    show V K 7 (mkM am hn ms) 192 [(0, .ref am), (1, .int v1), (2, .int v2)] [.int (b2i v173)]
                    exact t_zret X hK hd rfl ho dX10_readDoor_192
                clear hd2
                refine v_ifZ_eq (tgt := 173) X dX10_readDoor_166 (by decide) (fun q => ?_) (fun q => ?_)
                · have hd := Tcnd_f q hd
                  refine v_iconst (v := 0) X dX10_readDoor_173 (by decide) ?_
                  exact v_loc [2, 1, 0] rfl (t_at (P := fun (u96 : Bool) m => V K 7 (mkM am hn m) 174 [(0, .ref am), (1, .int v1), (2, .int v2)] [.int (b2i u96), .int (v2 + 2), .ref (am + (2 + 1))]) hd KJ)
                · have hd := Tcnd_t q hd
                  refine v_iconst (v := 1) X dX10_readDoor_169 (by decide) ?_
                  refine v_goto (tgt := 174) X dX10_readDoor_170 (by decide) ?_
                  exact v_loc [2, 1, 0] rfl (t_at (P := fun (u96 : Bool) m => V K 7 (mkM am hn m) 174 [(0, .ref am), (1, .int v1), (2, .int v2)] [.int (b2i u96), .int (v2 + 2), .ref (am + (2 + 1))]) hd KJ)
              · have hd := Tcnd_f q hd
                refine v_aload_n X dX10_readDoor_148 2 0 rfl rfl ?_
                refine v_iconst (v := 1) X dX10_readDoor_149 (by decide) ?_
                refine t_callV X hK hd (ct_X10_bad _ am 1) (lw_V q1913 q1915 qs44 q120 q1916) ⟨rfl, dn_X10_bad⟩ rfl ⟨by decide, by decide⟩ rfl (Nat.le_of_ble_eq_true rfl) dX10_readDoor_150 (fun v174 ms hd => ?_)
                show V K 7 (mkM am hn ms) 153 [(2, .int v2), (1, .int v1), (0, .ref am)] [.int (b2i v174)]
                exact t_zret X hK hd rfl ho dX10_readDoor_153
          · have hd := Tcnd_f q hd
            refine v_iconst (v := 0) X dX10_readDoor_118 (by decide) ?_
            exact t_zret X hK hd rfl ho dX10_readDoor_119
        · have hd := Tcnd_f q hd
          refine v_iconst (v := 0) X dX10_readDoor_88 (by decide) ?_
          exact t_zret X hK hd rfl ho dX10_readDoor_89
      · have hd := Tite_f q hd
        refine v_aload_n X dX10_readDoor_52 2 0 rfl rfl ?_
        refine v_iconst (v := 3) X dX10_readDoor_53 (by decide) ?_
        refine t_callV X hK hd (ct_X10_bad _ am 3) (lw_V q1913 q1915 qs44 q120 q1916) ⟨rfl, dn_X10_bad⟩ rfl ⟨by decide, by decide⟩ rfl (Nat.le_of_ble_eq_true rfl) dX10_readDoor_54 (fun v175 ms hd => ?_)
        show V K 7 (mkM am hn ms) 57 [(2, .int v2), (1, .int v1), (0, .ref am)] [.int (b2i v175)]
        exact t_zret X hK hd rfl ho dX10_readDoor_57
    · have hd := Tcnd_f q hd
      refine v_aload_n X dX10_readDoor_38 2 0 rfl rfl ?_
      refine v_iconst (v := 1) X dX10_readDoor_39 (by decide) ?_
      refine t_callV X hK hd (ct_X10_bad _ am 1) (lw_V q1913 q1915 qs44 q120 q1916) ⟨rfl, dn_X10_bad⟩ rfl ⟨by decide, by decide⟩ rfl (Nat.le_of_ble_eq_true rfl) dX10_readDoor_40 (fun v176 ms hd => ?_)
      show V K 7 (mkM am hn ms) 43 [(2, .int v2), (1, .int v1), (0, .ref am)] [.int (b2i v176)]
      exact t_zret X hK hd rfl ho dX10_readDoor_43
  · have hd := Tite_t q hd
    refine v_aload_n X dX10_readDoor_13 1 0 rfl rfl ?_
    refine v_iconst (v := 4) X dX10_readDoor_14 (by decide) ?_
    refine t_callV X hK hd (ct_X10_bad _ am 4) (lw_V q1913 q1915 qs44 q120 q1916) ⟨rfl, dn_X10_bad⟩ rfl ⟨by decide, by decide⟩ rfl (Nat.le_of_ble_eq_true rfl) dX10_readDoor_15 (fun v177 ms hd => ?_)
    show V K 7 (mkM am hn ms) 18 [(1, .int v1), (0, .ref am)] [.int (b2i v177)]
    exact t_zret X hK hd rfl ho dX10_readDoor_18
def dkwX10_quiet_1 : List UInt8 := [27, 172]
abbrev dktX10_quiet_1 : List UInt8 := dkwX10_quiet_1 ++ []
def dkwX10_quiet_0 : List UInt8 := [42, 3, 181, 0, 108, 42, 182, 1, 125, 4, 60, 42, 182, 1, 122, 158, 0, 9, 132, 1, 1, 167, 255, 246]
abbrev dktX10_quiet_0 : List UInt8 := dkwX10_quiet_0 ++ dktX10_quiet_1
theorem dksX10_quiet_0 : cX10_quiet.data.toList.drop 0 = dktX10_quiet_0 := by decide +kernel
theorem dksX10_quiet_1 : cX10_quiet.data.toList.drop 24 = dktX10_quiet_1 := dk_seg dksX10_quiet_0 24 rfl rfl
theorem dX10_quiet_0 : decode cX10_quiet 0 = .ok (.aload_n 0, 1) := dk_42 (dk_at dksX10_quiet_0 0 rfl rfl)
theorem dX10_quiet_1 : decode cX10_quiet 1 = .ok (.iconst 0, 1) := dk_3 (dk_at dksX10_quiet_0 1 rfl rfl)
theorem dX10_quiet_2 : decode cX10_quiet 2 = .ok (.putfield 108, 3) := dk_181 0 108 (dk_at dksX10_quiet_0 2 rfl rfl)
theorem dX10_quiet_5 : decode cX10_quiet 5 = .ok (.aload_n 0, 1) := dk_42 (dk_at dksX10_quiet_0 5 rfl rfl)
theorem dX10_quiet_6 : decode cX10_quiet 6 = .ok (.invokevirtual 381, 3) := dk_182 1 125 (dk_at dksX10_quiet_0 6 rfl rfl)
theorem dX10_quiet_9 : decode cX10_quiet 9 = .ok (.iconst 1, 1) := dk_4 (dk_at dksX10_quiet_0 9 rfl rfl)
theorem dX10_quiet_10 : decode cX10_quiet 10 = .ok (.istore_n 1, 1) := dk_60 (dk_at dksX10_quiet_0 10 rfl rfl)
theorem dX10_quiet_11 : decode cX10_quiet 11 = .ok (.aload_n 0, 1) := dk_42 (dk_at dksX10_quiet_0 11 rfl rfl)
theorem dX10_quiet_12 : decode cX10_quiet 12 = .ok (.invokevirtual 378, 3) := dk_182 1 122 (dk_at dksX10_quiet_0 12 rfl rfl)
theorem dX10_quiet_15 : decode cX10_quiet 15 = .ok (.ifCond .le 9, 3) := dk_158 0 9 (dk_at dksX10_quiet_0 15 rfl rfl)
theorem dX10_quiet_18 : decode cX10_quiet 18 = .ok (.iinc 1 1, 3) := dk_132 1 1 (dk_at dksX10_quiet_0 18 rfl rfl)
theorem dX10_quiet_21 : decode cX10_quiet 21 = .ok (.goto (-10), 3) := dk_167 255 246 (dk_at dksX10_quiet_0 21 rfl rfl)
theorem dX10_quiet_24 : decode cX10_quiet 24 = .ok (.iload_n 1, 1) := dk_27 (dk_at dksX10_quiet_1 0 rfl rfl)
theorem dX10_quiet_25 : decode cX10_quiet 25 = .ok (.ireturn, 1) := dk_172 (dk_at dksX10_quiet_1 1 rfl rfl)
theorem dn_X10_quiet : yX10_quiet.cls ≠ "java/lang/invoke/MethodHandle" ∧ yX10_quiet.cls ≠ "java/lang/invoke/VarHandle" ∧ (parseMethodDescriptor yX10_quiet.desc).map (fun d => d.parameters.length) = some 0 := by decide +kernel
noncomputable def M_X10_quiet  : TM Int32 := TM.bind (sI 0 0) (fun _ => TM.bind (M_X10_takeNow) (fun v1 => TM.bind (TM.loop (S := Int32) (E := Int32) (fun s2 => TM.bind (M_X10_blows) (fun v6 => if v6 ≤ 0 then TM.pure (Sum.inr s2) else TM.lv (s2 + 1) (fun v7 => TM.pure (Sum.inl v7)))) 1) (fun e5 => TM.pure e5)))
set_option maxHeartbeats 4000000 in
theorem ct_X10_quiet (G : gG) (am : Nat)  : gCtM G am yX10_quiet cX10_quiet 2 (some .int) 5 128 [.ref am] (M_X10_quiet) (fun x : Int32 => some (.int x)) := by
  refine gCtM.of (by decide) (Nat.le_of_ble_eq_true rfl) (fun K hn ms ms' r hG X hK hd ho => ?_)
  subst hG
  have X : gX K cX10_quiet 2 "BitingDoorsModel" "quiet" (some .int) 5 128 := X
  show V K 2 (mkM am hn ms) 0 [(0, .ref am)] []
  unfold M_X10_quiet at hd
  refine v_aload_n X dX10_quiet_0 0 0 rfl rfl ?_
  refine v_iconst (v := 0) X dX10_quiet_1 (by decide) ?_
  refine t_putI X hd rfl fp_X10_108 dX10_quiet_2 (fun ms hd => ?_)
  refine v_aload_n X dX10_quiet_5 0 0 rfl rfl ?_
  refine t_callV X hK hd (ct_X10_takeNow _ am) (lw_V q2144 q2146 qs77 q120 q2147) ⟨rfl, dn_X10_takeNow⟩ rfl ⟨by decide, by decide⟩ rfl (Nat.le_of_ble_eq_true rfl) dX10_quiet_6 (fun v1 ms hd => ?_)
  show V K 2 (mkM am hn ms) 9 [(0, .ref am)] []
  refine v_iconst (v := 1) X dX10_quiet_9 (by decide) ?_
  refine v_istore_n (lv2 := [(1, .int 1), (0, .ref am)]) X dX10_quiet_10 1 rfl (by decide) rfl ?_
  obtain ⟨e5, m1, hd, hd2⟩ := TM.bind_some hd
  have KX : V K 2 (mkM am hn m1) 24 [(1, .int e5)] [] := by
    clear hd
    have hd := hd2
    refine v_iload_n X dX10_quiet_24 0 1 rfl rfl ?_
    exact t_iret X hK hd ho dX10_quiet_25
  clear hd2
  refine v_loc [1, 0] rfl ?_
  refine Tloop_ind hd (fun (s2 : Int32) m => V K 2 (mkM am hn m) 11 [(0, .ref am), (1, .int s2)] []) (fun s2 ms x m2 hd ih3 ho4 => ?_)
  refine v_aload_n X dX10_quiet_11 0 0 rfl rfl ?_
  refine t_callV X hK hd (ct_X10_blows _ am) (lw_V q2188 q2190 qs86 q120 q2191) ⟨rfl, dn_X10_blows⟩ rfl ⟨by decide, by decide⟩ rfl (Nat.le_of_ble_eq_true rfl) dX10_quiet_12 (fun v6 ms hd => ?_)
  show V K 2 (mkM am hn ms) 15 [(0, .ref am), (1, .int s2)] [.int v6]
  refine v_if_le (tgt := 24) X dX10_quiet_15 (by decide) (fun q => ?_) (fun q => ?_)
  · have hd := Tite_t q hd
    exact v_loc [1] rfl (t_at (P := fun (e5 : Int32) m => V K 2 (mkM am hn m) 24 [(1, .int e5)] []) (Tlp_out hd ho4) KX)
  · have hd := Tite_f q hd
    refine t_iincL (lv2 := fun v7 => [(1, .int v7), (0, .ref am)]) X hd dX10_quiet_18 1 rfl (by decide : Int32.ofInt 1 = 1) (by decide) (fun v7 => rfl) (fun v7 hd => ?_)
    refine v_goto (tgt := 11) X dX10_quiet_21 (by decide) ?_
    exact v_loc [1, 0] rfl (Tlp_in (P := fun (s2 : Int32) m => V K 2 (mkM am hn m) 11 [(0, .ref am), (1, .int s2)] []) hd ih3)
def dkwX10_readRow_7 : List UInt8 := [4, 96, 79, 42, 182, 0, 194, 4, 172]
abbrev dktX10_readRow_7 : List UInt8 := dkwX10_readRow_7 ++ []
def dkwX10_readRow_6 : List UInt8 := [16, 102, 160, 0, 7, 3, 167, 0, 4, 5, 79, 132, 2, 1, 167, 255, 188, 42, 180, 0, 16, 4, 92, 46]
abbrev dktX10_readRow_6 : List UInt8 := dkwX10_readRow_6 ++ dktX10_readRow_7
def dkwX10_readRow_5 : List UInt8 := [28, 96, 46, 16, 119, 160, 0, 7, 4, 167, 0, 24, 42, 180, 0, 7, 42, 180, 0, 125, 28, 96, 46]
abbrev dktX10_readRow_5 : List UInt8 := dkwX10_readRow_5 ++ dktX10_readRow_6
def dkwX10_readRow_4 : List UInt8 := [162, 0, 64, 42, 180, 0, 16, 16, 10, 16, 10, 27, 104, 96, 28, 96, 42, 180, 0, 7, 42, 180, 0, 125]
abbrev dktX10_readRow_4 : List UInt8 := dkwX10_readRow_4 ++ dktX10_readRow_5
def dkwX10_readRow_3 : List UInt8 := [42, 180, 0, 16, 3, 42, 180, 0, 122, 42, 180, 0, 125, 100, 79, 3, 61, 28, 42, 180, 0, 16, 3, 46]
abbrev dktX10_readRow_3 : List UInt8 := dkwX10_readRow_3 ++ dktX10_readRow_4
def dkwX10_readRow_2 : List UInt8 := [42, 180, 0, 122, 42, 180, 0, 125, 100, 42, 180, 0, 16, 3, 46, 159, 0, 9, 42, 5, 182, 0, 184, 172]
abbrev dktX10_readRow_2 : List UInt8 := dkwX10_readRow_2 ++ dktX10_readRow_3
def dkwX10_readRow_1 : List UInt8 := [180, 0, 131, 5, 159, 0, 9, 42, 4, 182, 0, 184, 172, 42, 182, 0, 174, 153, 0, 25, 27, 158, 0, 27]
abbrev dktX10_readRow_1 : List UInt8 := dkwX10_readRow_1 ++ dktX10_readRow_2
def dkwX10_readRow_0 : List UInt8 := [42, 180, 0, 16, 4, 46, 60, 27, 16, 10, 160, 0, 9, 42, 7, 182, 0, 184, 172, 42, 182, 0, 194, 42]
abbrev dktX10_readRow_0 : List UInt8 := dkwX10_readRow_0 ++ dktX10_readRow_1
theorem dksX10_readRow_0 : cX10_readRow.data.toList.drop 0 = dktX10_readRow_0 := by decide +kernel
theorem dksX10_readRow_1 : cX10_readRow.data.toList.drop 24 = dktX10_readRow_1 := dk_seg dksX10_readRow_0 24 rfl rfl
theorem dksX10_readRow_2 : cX10_readRow.data.toList.drop 48 = dktX10_readRow_2 := dk_seg dksX10_readRow_1 24 rfl rfl
theorem dksX10_readRow_3 : cX10_readRow.data.toList.drop 72 = dktX10_readRow_3 := dk_seg dksX10_readRow_2 24 rfl rfl
theorem dksX10_readRow_4 : cX10_readRow.data.toList.drop 96 = dktX10_readRow_4 := dk_seg dksX10_readRow_3 24 rfl rfl
theorem dksX10_readRow_5 : cX10_readRow.data.toList.drop 120 = dktX10_readRow_5 := dk_seg dksX10_readRow_4 24 rfl rfl
theorem dksX10_readRow_6 : cX10_readRow.data.toList.drop 143 = dktX10_readRow_6 := dk_seg dksX10_readRow_5 23 rfl rfl
theorem dksX10_readRow_7 : cX10_readRow.data.toList.drop 167 = dktX10_readRow_7 := dk_seg dksX10_readRow_6 24 rfl rfl
theorem dX10_readRow_0 : decode cX10_readRow 0 = .ok (.aload_n 0, 1) := dk_42 (dk_at dksX10_readRow_0 0 rfl rfl)
theorem dX10_readRow_1 : decode cX10_readRow 1 = .ok (.getfield 16, 3) := dk_180 0 16 (dk_at dksX10_readRow_0 1 rfl rfl)
theorem dX10_readRow_4 : decode cX10_readRow 4 = .ok (.iconst 1, 1) := dk_4 (dk_at dksX10_readRow_0 4 rfl rfl)
theorem dX10_readRow_5 : decode cX10_readRow 5 = .ok (.iaload, 1) := dk_46 (dk_at dksX10_readRow_0 5 rfl rfl)
theorem dX10_readRow_6 : decode cX10_readRow 6 = .ok (.istore_n 1, 1) := dk_60 (dk_at dksX10_readRow_0 6 rfl rfl)
theorem dX10_readRow_7 : decode cX10_readRow 7 = .ok (.iload_n 1, 1) := dk_27 (dk_at dksX10_readRow_0 7 rfl rfl)
theorem dX10_readRow_8 : decode cX10_readRow 8 = .ok (.bipush 10, 2) := dk_16 10 (dk_at dksX10_readRow_0 8 rfl rfl)
theorem dX10_readRow_10 : decode cX10_readRow 10 = .ok (.if_icmp .ne 9, 3) := dk_160 0 9 (dk_at dksX10_readRow_0 10 rfl rfl)
theorem dX10_readRow_13 : decode cX10_readRow 13 = .ok (.aload_n 0, 1) := dk_42 (dk_at dksX10_readRow_0 13 rfl rfl)
theorem dX10_readRow_14 : decode cX10_readRow 14 = .ok (.iconst 4, 1) := dk_7 (dk_at dksX10_readRow_0 14 rfl rfl)
theorem dX10_readRow_15 : decode cX10_readRow 15 = .ok (.invokevirtual 184, 3) := dk_182 0 184 (dk_at dksX10_readRow_0 15 rfl rfl)
theorem dX10_readRow_18 : decode cX10_readRow 18 = .ok (.ireturn, 1) := dk_172 (dk_at dksX10_readRow_0 18 rfl rfl)
theorem dX10_readRow_19 : decode cX10_readRow 19 = .ok (.aload_n 0, 1) := dk_42 (dk_at dksX10_readRow_0 19 rfl rfl)
theorem dX10_readRow_20 : decode cX10_readRow 20 = .ok (.invokevirtual 194, 3) := dk_182 0 194 (dk_at dksX10_readRow_0 20 rfl rfl)
theorem dX10_readRow_23 : decode cX10_readRow 23 = .ok (.aload_n 0, 1) := dk_42 (dk_at dksX10_readRow_0 23 rfl rfl)
theorem dX10_readRow_24 : decode cX10_readRow 24 = .ok (.getfield 131, 3) := dk_180 0 131 (dk_at dksX10_readRow_1 0 rfl rfl)
theorem dX10_readRow_27 : decode cX10_readRow 27 = .ok (.iconst 2, 1) := dk_5 (dk_at dksX10_readRow_1 3 rfl rfl)
theorem dX10_readRow_28 : decode cX10_readRow 28 = .ok (.if_icmp .eq 9, 3) := dk_159 0 9 (dk_at dksX10_readRow_1 4 rfl rfl)
theorem dX10_readRow_31 : decode cX10_readRow 31 = .ok (.aload_n 0, 1) := dk_42 (dk_at dksX10_readRow_1 7 rfl rfl)
theorem dX10_readRow_32 : decode cX10_readRow 32 = .ok (.iconst 1, 1) := dk_4 (dk_at dksX10_readRow_1 8 rfl rfl)
theorem dX10_readRow_33 : decode cX10_readRow 33 = .ok (.invokevirtual 184, 3) := dk_182 0 184 (dk_at dksX10_readRow_1 9 rfl rfl)
theorem dX10_readRow_36 : decode cX10_readRow 36 = .ok (.ireturn, 1) := dk_172 (dk_at dksX10_readRow_1 12 rfl rfl)
theorem dX10_readRow_37 : decode cX10_readRow 37 = .ok (.aload_n 0, 1) := dk_42 (dk_at dksX10_readRow_1 13 rfl rfl)
theorem dX10_readRow_38 : decode cX10_readRow 38 = .ok (.invokevirtual 174, 3) := dk_182 0 174 (dk_at dksX10_readRow_1 14 rfl rfl)
theorem dX10_readRow_41 : decode cX10_readRow 41 = .ok (.ifCond .eq 25, 3) := dk_153 0 25 (dk_at dksX10_readRow_1 17 rfl rfl)
theorem dX10_readRow_44 : decode cX10_readRow 44 = .ok (.iload_n 1, 1) := dk_27 (dk_at dksX10_readRow_1 20 rfl rfl)
theorem dX10_readRow_45 : decode cX10_readRow 45 = .ok (.ifCond .le 27, 3) := dk_158 0 27 (dk_at dksX10_readRow_1 21 rfl rfl)
theorem dX10_readRow_48 : decode cX10_readRow 48 = .ok (.aload_n 0, 1) := dk_42 (dk_at dksX10_readRow_2 0 rfl rfl)
theorem dX10_readRow_49 : decode cX10_readRow 49 = .ok (.getfield 122, 3) := dk_180 0 122 (dk_at dksX10_readRow_2 1 rfl rfl)
theorem dX10_readRow_52 : decode cX10_readRow 52 = .ok (.aload_n 0, 1) := dk_42 (dk_at dksX10_readRow_2 4 rfl rfl)
theorem dX10_readRow_53 : decode cX10_readRow 53 = .ok (.getfield 125, 3) := dk_180 0 125 (dk_at dksX10_readRow_2 5 rfl rfl)
theorem dX10_readRow_56 : decode cX10_readRow 56 = .ok (.isub, 1) := dk_100 (dk_at dksX10_readRow_2 8 rfl rfl)
theorem dX10_readRow_57 : decode cX10_readRow 57 = .ok (.aload_n 0, 1) := dk_42 (dk_at dksX10_readRow_2 9 rfl rfl)
theorem dX10_readRow_58 : decode cX10_readRow 58 = .ok (.getfield 16, 3) := dk_180 0 16 (dk_at dksX10_readRow_2 10 rfl rfl)
theorem dX10_readRow_61 : decode cX10_readRow 61 = .ok (.iconst 0, 1) := dk_3 (dk_at dksX10_readRow_2 13 rfl rfl)
theorem dX10_readRow_62 : decode cX10_readRow 62 = .ok (.iaload, 1) := dk_46 (dk_at dksX10_readRow_2 14 rfl rfl)
theorem dX10_readRow_63 : decode cX10_readRow 63 = .ok (.if_icmp .eq 9, 3) := dk_159 0 9 (dk_at dksX10_readRow_2 15 rfl rfl)
theorem dX10_readRow_66 : decode cX10_readRow 66 = .ok (.aload_n 0, 1) := dk_42 (dk_at dksX10_readRow_2 18 rfl rfl)
theorem dX10_readRow_67 : decode cX10_readRow 67 = .ok (.iconst 2, 1) := dk_5 (dk_at dksX10_readRow_2 19 rfl rfl)
theorem dX10_readRow_68 : decode cX10_readRow 68 = .ok (.invokevirtual 184, 3) := dk_182 0 184 (dk_at dksX10_readRow_2 20 rfl rfl)
theorem dX10_readRow_71 : decode cX10_readRow 71 = .ok (.ireturn, 1) := dk_172 (dk_at dksX10_readRow_2 23 rfl rfl)
theorem dX10_readRow_72 : decode cX10_readRow 72 = .ok (.aload_n 0, 1) := dk_42 (dk_at dksX10_readRow_3 0 rfl rfl)
theorem dX10_readRow_73 : decode cX10_readRow 73 = .ok (.getfield 16, 3) := dk_180 0 16 (dk_at dksX10_readRow_3 1 rfl rfl)
theorem dX10_readRow_76 : decode cX10_readRow 76 = .ok (.iconst 0, 1) := dk_3 (dk_at dksX10_readRow_3 4 rfl rfl)
theorem dX10_readRow_77 : decode cX10_readRow 77 = .ok (.aload_n 0, 1) := dk_42 (dk_at dksX10_readRow_3 5 rfl rfl)
theorem dX10_readRow_78 : decode cX10_readRow 78 = .ok (.getfield 122, 3) := dk_180 0 122 (dk_at dksX10_readRow_3 6 rfl rfl)
theorem dX10_readRow_81 : decode cX10_readRow 81 = .ok (.aload_n 0, 1) := dk_42 (dk_at dksX10_readRow_3 9 rfl rfl)
theorem dX10_readRow_82 : decode cX10_readRow 82 = .ok (.getfield 125, 3) := dk_180 0 125 (dk_at dksX10_readRow_3 10 rfl rfl)
theorem dX10_readRow_85 : decode cX10_readRow 85 = .ok (.isub, 1) := dk_100 (dk_at dksX10_readRow_3 13 rfl rfl)
theorem dX10_readRow_86 : decode cX10_readRow 86 = .ok (.iastore, 1) := dk_79 (dk_at dksX10_readRow_3 14 rfl rfl)
theorem dX10_readRow_87 : decode cX10_readRow 87 = .ok (.iconst 0, 1) := dk_3 (dk_at dksX10_readRow_3 15 rfl rfl)
theorem dX10_readRow_88 : decode cX10_readRow 88 = .ok (.istore_n 2, 1) := dk_61 (dk_at dksX10_readRow_3 16 rfl rfl)
theorem dX10_readRow_89 : decode cX10_readRow 89 = .ok (.iload_n 2, 1) := dk_28 (dk_at dksX10_readRow_3 17 rfl rfl)
theorem dX10_readRow_90 : decode cX10_readRow 90 = .ok (.aload_n 0, 1) := dk_42 (dk_at dksX10_readRow_3 18 rfl rfl)
theorem dX10_readRow_91 : decode cX10_readRow 91 = .ok (.getfield 16, 3) := dk_180 0 16 (dk_at dksX10_readRow_3 19 rfl rfl)
theorem dX10_readRow_94 : decode cX10_readRow 94 = .ok (.iconst 0, 1) := dk_3 (dk_at dksX10_readRow_3 22 rfl rfl)
theorem dX10_readRow_95 : decode cX10_readRow 95 = .ok (.iaload, 1) := dk_46 (dk_at dksX10_readRow_3 23 rfl rfl)
theorem dX10_readRow_96 : decode cX10_readRow 96 = .ok (.if_icmp .ge 64, 3) := dk_162 0 64 (dk_at dksX10_readRow_4 0 rfl rfl)
theorem dX10_readRow_99 : decode cX10_readRow 99 = .ok (.aload_n 0, 1) := dk_42 (dk_at dksX10_readRow_4 3 rfl rfl)
theorem dX10_readRow_100 : decode cX10_readRow 100 = .ok (.getfield 16, 3) := dk_180 0 16 (dk_at dksX10_readRow_4 4 rfl rfl)
theorem dX10_readRow_103 : decode cX10_readRow 103 = .ok (.bipush 10, 2) := dk_16 10 (dk_at dksX10_readRow_4 7 rfl rfl)
theorem dX10_readRow_105 : decode cX10_readRow 105 = .ok (.bipush 10, 2) := dk_16 10 (dk_at dksX10_readRow_4 9 rfl rfl)
theorem dX10_readRow_107 : decode cX10_readRow 107 = .ok (.iload_n 1, 1) := dk_27 (dk_at dksX10_readRow_4 11 rfl rfl)
theorem dX10_readRow_108 : decode cX10_readRow 108 = .ok (.imul, 1) := dk_104 (dk_at dksX10_readRow_4 12 rfl rfl)
theorem dX10_readRow_109 : decode cX10_readRow 109 = .ok (.iadd, 1) := dk_96 (dk_at dksX10_readRow_4 13 rfl rfl)
theorem dX10_readRow_110 : decode cX10_readRow 110 = .ok (.iload_n 2, 1) := dk_28 (dk_at dksX10_readRow_4 14 rfl rfl)
theorem dX10_readRow_111 : decode cX10_readRow 111 = .ok (.iadd, 1) := dk_96 (dk_at dksX10_readRow_4 15 rfl rfl)
theorem dX10_readRow_112 : decode cX10_readRow 112 = .ok (.aload_n 0, 1) := dk_42 (dk_at dksX10_readRow_4 16 rfl rfl)
theorem dX10_readRow_113 : decode cX10_readRow 113 = .ok (.getfield 7, 3) := dk_180 0 7 (dk_at dksX10_readRow_4 17 rfl rfl)
theorem dX10_readRow_116 : decode cX10_readRow 116 = .ok (.aload_n 0, 1) := dk_42 (dk_at dksX10_readRow_4 20 rfl rfl)
theorem dX10_readRow_117 : decode cX10_readRow 117 = .ok (.getfield 125, 3) := dk_180 0 125 (dk_at dksX10_readRow_4 21 rfl rfl)
theorem dX10_readRow_120 : decode cX10_readRow 120 = .ok (.iload_n 2, 1) := dk_28 (dk_at dksX10_readRow_5 0 rfl rfl)
theorem dX10_readRow_121 : decode cX10_readRow 121 = .ok (.iadd, 1) := dk_96 (dk_at dksX10_readRow_5 1 rfl rfl)
theorem dX10_readRow_122 : decode cX10_readRow 122 = .ok (.iaload, 1) := dk_46 (dk_at dksX10_readRow_5 2 rfl rfl)
theorem dX10_readRow_123 : decode cX10_readRow 123 = .ok (.bipush 119, 2) := dk_16 119 (dk_at dksX10_readRow_5 3 rfl rfl)
theorem dX10_readRow_125 : decode cX10_readRow 125 = .ok (.if_icmp .ne 7, 3) := dk_160 0 7 (dk_at dksX10_readRow_5 5 rfl rfl)
theorem dX10_readRow_128 : decode cX10_readRow 128 = .ok (.iconst 1, 1) := dk_4 (dk_at dksX10_readRow_5 8 rfl rfl)
theorem dX10_readRow_129 : decode cX10_readRow 129 = .ok (.goto 24, 3) := dk_167 0 24 (dk_at dksX10_readRow_5 9 rfl rfl)
theorem dX10_readRow_132 : decode cX10_readRow 132 = .ok (.aload_n 0, 1) := dk_42 (dk_at dksX10_readRow_5 12 rfl rfl)
theorem dX10_readRow_133 : decode cX10_readRow 133 = .ok (.getfield 7, 3) := dk_180 0 7 (dk_at dksX10_readRow_5 13 rfl rfl)
theorem dX10_readRow_136 : decode cX10_readRow 136 = .ok (.aload_n 0, 1) := dk_42 (dk_at dksX10_readRow_5 16 rfl rfl)
theorem dX10_readRow_137 : decode cX10_readRow 137 = .ok (.getfield 125, 3) := dk_180 0 125 (dk_at dksX10_readRow_5 17 rfl rfl)
theorem dX10_readRow_140 : decode cX10_readRow 140 = .ok (.iload_n 2, 1) := dk_28 (dk_at dksX10_readRow_5 20 rfl rfl)
theorem dX10_readRow_141 : decode cX10_readRow 141 = .ok (.iadd, 1) := dk_96 (dk_at dksX10_readRow_5 21 rfl rfl)
theorem dX10_readRow_142 : decode cX10_readRow 142 = .ok (.iaload, 1) := dk_46 (dk_at dksX10_readRow_5 22 rfl rfl)
theorem dX10_readRow_143 : decode cX10_readRow 143 = .ok (.bipush 102, 2) := dk_16 102 (dk_at dksX10_readRow_6 0 rfl rfl)
theorem dX10_readRow_145 : decode cX10_readRow 145 = .ok (.if_icmp .ne 7, 3) := dk_160 0 7 (dk_at dksX10_readRow_6 2 rfl rfl)
theorem dX10_readRow_148 : decode cX10_readRow 148 = .ok (.iconst 0, 1) := dk_3 (dk_at dksX10_readRow_6 5 rfl rfl)
theorem dX10_readRow_149 : decode cX10_readRow 149 = .ok (.goto 4, 3) := dk_167 0 4 (dk_at dksX10_readRow_6 6 rfl rfl)
theorem dX10_readRow_152 : decode cX10_readRow 152 = .ok (.iconst 2, 1) := dk_5 (dk_at dksX10_readRow_6 9 rfl rfl)
theorem dX10_readRow_153 : decode cX10_readRow 153 = .ok (.iastore, 1) := dk_79 (dk_at dksX10_readRow_6 10 rfl rfl)
theorem dX10_readRow_154 : decode cX10_readRow 154 = .ok (.iinc 2 1, 3) := dk_132 2 1 (dk_at dksX10_readRow_6 11 rfl rfl)
theorem dX10_readRow_157 : decode cX10_readRow 157 = .ok (.goto (-68), 3) := dk_167 255 188 (dk_at dksX10_readRow_6 14 rfl rfl)
theorem dX10_readRow_160 : decode cX10_readRow 160 = .ok (.aload_n 0, 1) := dk_42 (dk_at dksX10_readRow_6 17 rfl rfl)
theorem dX10_readRow_161 : decode cX10_readRow 161 = .ok (.getfield 16, 3) := dk_180 0 16 (dk_at dksX10_readRow_6 18 rfl rfl)
theorem dX10_readRow_164 : decode cX10_readRow 164 = .ok (.iconst 1, 1) := dk_4 (dk_at dksX10_readRow_6 21 rfl rfl)
theorem dX10_readRow_165 : decode cX10_readRow 165 = .ok (.dup2, 1) := dk_92 (dk_at dksX10_readRow_6 22 rfl rfl)
theorem dX10_readRow_166 : decode cX10_readRow 166 = .ok (.iaload, 1) := dk_46 (dk_at dksX10_readRow_6 23 rfl rfl)
theorem dX10_readRow_167 : decode cX10_readRow 167 = .ok (.iconst 1, 1) := dk_4 (dk_at dksX10_readRow_7 0 rfl rfl)
theorem dX10_readRow_168 : decode cX10_readRow 168 = .ok (.iadd, 1) := dk_96 (dk_at dksX10_readRow_7 1 rfl rfl)
theorem dX10_readRow_169 : decode cX10_readRow 169 = .ok (.iastore, 1) := dk_79 (dk_at dksX10_readRow_7 2 rfl rfl)
theorem dX10_readRow_170 : decode cX10_readRow 170 = .ok (.aload_n 0, 1) := dk_42 (dk_at dksX10_readRow_7 3 rfl rfl)
theorem dX10_readRow_171 : decode cX10_readRow 171 = .ok (.invokevirtual 194, 3) := dk_182 0 194 (dk_at dksX10_readRow_7 4 rfl rfl)
theorem dX10_readRow_174 : decode cX10_readRow 174 = .ok (.iconst 1, 1) := dk_4 (dk_at dksX10_readRow_7 7 rfl rfl)
theorem dX10_readRow_175 : decode cX10_readRow 175 = .ok (.ireturn, 1) := dk_172 (dk_at dksX10_readRow_7 8 rfl rfl)
theorem dn_X10_readRow : yX10_readRow.cls ≠ "java/lang/invoke/MethodHandle" ∧ yX10_readRow.cls ≠ "java/lang/invoke/VarHandle" ∧ (parseMethodDescriptor yX10_readRow.desc).map (fun d => d.parameters.length) = some 0 := by decide +kernel
noncomputable def M_X10_readRow  : TM Bool := TM.bind (tA 15 330 1) (fun v1 => if v1 = 10 then TM.bind (M_X10_bad 4) (fun v41 => TM.pure v41) else TM.bind (M_X10_go) (fun v2 => TM.bind (tI 7) (fun v3 => if v3 = 2 then TM.bind (M_X10_isCells) (fun v4 => cond v4 (if v1 ≤ 0 then TM.bind (tI 5) (fun v6 => TM.bind (tI 6) (fun v7 => TM.bind (sA 15 330 0 (v6 - v7)) (fun _ => TM.bind (TM.loop (S := Int32) (E := Unit) (fun s8 => TM.bind (tA 15 330 0) (fun v12 => if v12 ≤ s8 then TM.pure (Sum.inr ()) else TM.bind (tI 6) (fun v13 => TM.bind (tA 1 940 (v13 + s8)) (fun v14 => TM.bind ((if v14 = 119 then TM.pure 1 else TM.bind (tI 6) (fun v17 => TM.bind (tA 1 940 (v17 + s8)) (fun v18 => if v18 = 102 then TM.pure 0 else TM.pure 2)) : TM (Int32))) (fun u15 => TM.bind (sA 15 330 ((10 + (10 * v1)) + s8) u15) (fun _ => TM.lv (s8 + 1) (fun v16 => TM.pure (Sum.inl v16)))))))) 0) (fun e11 => TM.bind (tA 15 330 1) (fun v19 => TM.bind (sA 15 330 1 (v19 + 1)) (fun _ => TM.bind (M_X10_go) (fun v20 => TM.pure true))))))) else TM.bind (tI 5) (fun v21 => TM.bind (tI 6) (fun v22 => TM.bind (tA 15 330 0) (fun v23 => if (v21 - v22) = v23 then TM.bind (tI 5) (fun v24 => TM.bind (tI 6) (fun v25 => TM.bind (sA 15 330 0 (v24 - v25)) (fun _ => TM.bind (TM.loop (S := Int32) (E := Unit) (fun s26 => TM.bind (tA 15 330 0) (fun v30 => if v30 ≤ s26 then TM.pure (Sum.inr ()) else TM.bind (tI 6) (fun v31 => TM.bind (tA 1 940 (v31 + s26)) (fun v32 => TM.bind ((if v32 = 119 then TM.pure 1 else TM.bind (tI 6) (fun v35 => TM.bind (tA 1 940 (v35 + s26)) (fun v36 => if v36 = 102 then TM.pure 0 else TM.pure 2)) : TM (Int32))) (fun u33 => TM.bind (sA 15 330 ((10 + (10 * v1)) + s26) u33) (fun _ => TM.lv (s26 + 1) (fun v34 => TM.pure (Sum.inl v34)))))))) 0) (fun e29 => TM.bind (tA 15 330 1) (fun v37 => TM.bind (sA 15 330 1 (v37 + 1)) (fun _ => TM.bind (M_X10_go) (fun v38 => TM.pure true))))))) else TM.bind (M_X10_bad 2) (fun v39 => TM.pure v39))))) (TM.bind (M_X10_bad 2) (fun v5 => TM.pure v5))) else TM.bind (M_X10_bad 1) (fun v40 => TM.pure v40))))
set_option maxHeartbeats 4000000 in
theorem ct_X10_readRow (G : gG) (am : Nat)  : gCtM G am yX10_readRow cX10_readRow 3 (some .boolean) 2 45 [.ref am] (M_X10_readRow) (fun x : Bool => some (.int (b2i x))) := by
  refine gCtM.of (by decide) (Nat.le_of_ble_eq_true rfl) (fun K hn ms ms' r hG X hK hd ho => ?_)
  subst hG
  have X : gX K cX10_readRow 3 "BitingDoorsModel" "readRow" (some .boolean) 2 45 := X
  show V K 3 (mkM am hn ms) 0 [(0, .ref am)] []
  unfold M_X10_readRow at hd
  refine v_aload_n X dX10_readRow_0 0 0 rfl rfl ?_
  refine t_getA (j := 2) X rfl fl_X10_16 dX10_readRow_1 ?_
  refine v_iconst (v := 1) X dX10_readRow_4 (by decide) ?_
  refine t_iald (j := 2) X hd rfl dX10_readRow_5 (fun v1 hd => ?_)
  refine v_istore_n (lv2 := [(1, .int v1), (0, .ref am)]) X dX10_readRow_6 1 rfl (by decide) rfl ?_
  refine v_iload_n X dX10_readRow_7 0 1 rfl rfl ?_
  refine v_bipush (v := 10) X dX10_readRow_8 (by decide) ?_
  refine v_icmp_ne (tgt := 19) X dX10_readRow_10 (by decide) (fun q => ?_) (fun q => ?_)
  · have hd := Tite_f q hd
    refine v_aload_n X dX10_readRow_19 1 0 rfl rfl ?_
    refine t_callV X hK hd (ct_X10_go _ am) (lw_V q1876 q1878 qs39 q120 q1879) ⟨rfl, dn_X10_go⟩ rfl ⟨by decide, by decide⟩ rfl (Nat.le_of_ble_eq_true rfl) dX10_readRow_20 (fun v2 ms hd => ?_)
    show V K 3 (mkM am hn ms) 23 [(1, .int v1), (0, .ref am)] []
    refine v_aload_n X dX10_readRow_23 1 0 rfl rfl ?_
    refine t_getI X hd rfl fl_X10_131 dX10_readRow_24 (fun v3 hd => ?_)
    refine v_iconst (v := 2) X dX10_readRow_27 (by decide) ?_
    refine v_icmp_eq (tgt := 37) X dX10_readRow_28 (by decide) (fun q => ?_) (fun q => ?_)
    · have hd := Tite_t q hd
      refine v_aload_n X dX10_readRow_37 1 0 rfl rfl ?_
      refine t_callV X hK hd (ct_X10_isCells _ am) (lw_V q1917 q1919 qs45 q120 q1920) ⟨rfl, dn_X10_isCells⟩ rfl ⟨by decide, by decide⟩ rfl (Nat.le_of_ble_eq_true rfl) dX10_readRow_38 (fun v4 ms hd => ?_)
      show V K 3 (mkM am hn ms) 41 [(1, .int v1), (0, .ref am)] [.int (b2i v4)]
      refine v_ifZ_eq (tgt := 66) X dX10_readRow_41 (by decide) (fun q => ?_) (fun q => ?_)
      · have hd := Tcnd_f q hd
        refine v_aload_n X dX10_readRow_66 1 0 rfl rfl ?_
        refine v_iconst (v := 2) X dX10_readRow_67 (by decide) ?_
        refine t_callV X hK hd (ct_X10_bad _ am 2) (lw_V q1913 q1915 qs44 q120 q1916) ⟨rfl, dn_X10_bad⟩ rfl ⟨by decide, by decide⟩ rfl (Nat.le_of_ble_eq_true rfl) dX10_readRow_68 (fun v5 ms hd => ?_)
        show V K 3 (mkM am hn ms) 71 [(1, .int v1), (0, .ref am)] [.int (b2i v5)]
        exact t_zret X hK hd rfl ho dX10_readRow_71
      · have hd := Tcnd_t q hd
        refine v_iload_n X dX10_readRow_44 0 1 rfl rfl ?_
        refine v_if_le (tgt := 72) X dX10_readRow_45 (by decide) (fun q => ?_) (fun q => ?_)
        · have hd := Tite_t q hd
          refine v_aload_n X dX10_readRow_72 1 0 rfl rfl ?_
          refine t_getA (j := 2) X rfl fl_X10_16 dX10_readRow_73 ?_
          refine v_iconst (v := 0) X dX10_readRow_76 (by decide) ?_
          refine v_aload_n X dX10_readRow_77 1 0 rfl rfl ?_
          refine t_getI X hd rfl fl_X10_122 dX10_readRow_78 (fun v6 hd => ?_)
          refine v_aload_n X dX10_readRow_81 1 0 rfl rfl ?_
          refine t_getI X hd rfl fl_X10_125 dX10_readRow_82 (fun v7 hd => ?_)
          refine v_isub X dX10_readRow_85 ?_
          refine t_iast (j := 2) X hd rfl dX10_readRow_86 (fun ms hd => ?_)
          refine v_iconst (v := 0) X dX10_readRow_87 (by decide) ?_
          refine v_istore_n (lv2 := [(2, .int 0), (1, .int v1), (0, .ref am)]) X dX10_readRow_88 2 rfl (by decide) rfl ?_
          obtain ⟨e11, m1, hd, hd2⟩ := TM.bind_some hd
          have KX : V K 3 (mkM am hn m1) 160 [(0, .ref am)] [] := by
            clear hd
            have hd := hd2
            refine v_aload_n X dX10_readRow_160 0 0 rfl rfl ?_
            refine t_getA (j := 2) X rfl fl_X10_16 dX10_readRow_161 ?_
            refine v_iconst (v := 1) X dX10_readRow_164 (by decide) ?_
            refine v_dup2 X dX10_readRow_165 rfl rfl ?_
            refine t_iald (j := 2) X hd rfl dX10_readRow_166 (fun v19 hd => ?_)
            refine v_iconst (v := 1) X dX10_readRow_167 (by decide) ?_
            refine v_iadd X dX10_readRow_168 ?_
            refine t_iast (j := 2) X hd rfl dX10_readRow_169 (fun ms hd => ?_)
            refine v_aload_n X dX10_readRow_170 0 0 rfl rfl ?_
            refine t_callV X hK hd (ct_X10_go _ am) (lw_V q1876 q1878 qs39 q120 q1879) ⟨rfl, dn_X10_go⟩ rfl ⟨by decide, by decide⟩ rfl (Nat.le_of_ble_eq_true rfl) dX10_readRow_171 (fun v20 ms hd => ?_)
            show V K 3 (mkM am hn ms) 174 [(0, .ref am)] []
            refine v_iconst (v := 1) X dX10_readRow_174 (by decide) ?_
            exact t_zret X hK hd rfl ho dX10_readRow_175
          clear hd2
          refine v_loc [2, 1, 0] rfl ?_
          refine Tloop_ind hd (fun (s8 : Int32) m => V K 3 (mkM am hn m) 89 [(0, .ref am), (1, .int v1), (2, .int s8)] []) (fun s8 ms x m2 hd ih9 ho10 => ?_)
          refine v_iload_n X dX10_readRow_89 2 2 rfl rfl ?_
          refine v_aload_n X dX10_readRow_90 0 0 rfl rfl ?_
          refine t_getA (j := 2) X rfl fl_X10_16 dX10_readRow_91 ?_
          refine v_iconst (v := 0) X dX10_readRow_94 (by decide) ?_
          refine t_iald (j := 2) X hd rfl dX10_readRow_95 (fun v12 hd => ?_)
          refine v_icmp_ge (tgt := 160) X dX10_readRow_96 (by decide) (fun q => ?_) (fun q => ?_)
          · have hd := Tite_t q hd
            exact v_loc [0] rfl (t_at (P := fun (e11 : Unit) m => V K 3 (mkM am hn m) 160 [(0, .ref am)] []) (Tlp_out hd ho10) KX)
          · have hd := Tite_f q hd
            refine v_aload_n X dX10_readRow_99 0 0 rfl rfl ?_
            refine t_getA (j := 2) X rfl fl_X10_16 dX10_readRow_100 ?_
            refine v_bipush (v := 10) X dX10_readRow_103 (by decide) ?_
            refine v_bipush (v := 10) X dX10_readRow_105 (by decide) ?_
            refine v_iload_n X dX10_readRow_107 1 1 rfl rfl ?_
            refine v_imul X dX10_readRow_108 ?_
            refine v_iadd X dX10_readRow_109 ?_
            refine v_iload_n X dX10_readRow_110 2 2 rfl rfl ?_
            refine v_iadd X dX10_readRow_111 ?_
            refine v_aload_n X dX10_readRow_112 0 0 rfl rfl ?_
            refine t_getA (j := 0) X rfl fl_X10_7 dX10_readRow_113 ?_
            refine v_aload_n X dX10_readRow_116 0 0 rfl rfl ?_
            refine t_getI X hd rfl fl_X10_125 dX10_readRow_117 (fun v13 hd => ?_)
            refine v_iload_n X dX10_readRow_120 2 2 rfl rfl ?_
            refine v_iadd X dX10_readRow_121 ?_
            refine t_iald (j := 0) X hd rfl dX10_readRow_122 (fun v14 hd => ?_)
            refine v_bipush (v := 119) X dX10_readRow_123 (by decide) ?_
            obtain ⟨u15, m1, hd, hd2⟩ := TM.bind_some hd
            have KJ : V K 3 (mkM am hn m1) 153 [(0, .ref am), (1, .int v1), (2, .int s8)] [.int u15, .int ((10 + (10 * v1)) + s8), .ref (am + (2 + 1))] := by
              clear hd
              have hd := hd2
              refine t_iast (j := 2) X hd rfl dX10_readRow_153 (fun ms hd => ?_)
              refine t_iincL (lv2 := fun v16 => [(2, .int v16), (0, .ref am), (1, .int v1)]) X hd dX10_readRow_154 2 rfl (by decide : Int32.ofInt 1 = 1) (by decide) (fun v16 => rfl) (fun v16 hd => ?_)
              refine v_goto (tgt := 89) X dX10_readRow_157 (by decide) ?_
              exact v_loc [1, 2, 0] rfl (Tlp_in (P := fun (s8 : Int32) m => V K 3 (mkM am hn m) 89 [(0, .ref am), (1, .int v1), (2, .int s8)] []) hd ih9)
            clear hd2
            refine v_icmp_ne (tgt := 132) X dX10_readRow_125 (by decide) (fun q => ?_) (fun q => ?_)
            · have hd := Tite_f q hd
              refine v_aload_n X dX10_readRow_132 0 0 rfl rfl ?_
              refine t_getA (j := 0) X rfl fl_X10_7 dX10_readRow_133 ?_
              refine v_aload_n X dX10_readRow_136 0 0 rfl rfl ?_
              refine t_getI X hd rfl fl_X10_125 dX10_readRow_137 (fun v17 hd => ?_)
              refine v_iload_n X dX10_readRow_140 2 2 rfl rfl ?_
              refine v_iadd X dX10_readRow_141 ?_
              refine t_iald (j := 0) X hd rfl dX10_readRow_142 (fun v18 hd => ?_)
              refine v_bipush (v := 102) X dX10_readRow_143 (by decide) ?_
              refine v_icmp_ne (tgt := 152) X dX10_readRow_145 (by decide) (fun q => ?_) (fun q => ?_)
              · have hd := Tite_f q hd
                refine v_iconst (v := 2) X dX10_readRow_152 (by decide) ?_
                exact v_loc [0, 1, 2] rfl (t_at (P := fun (u15 : Int32) m => V K 3 (mkM am hn m) 153 [(0, .ref am), (1, .int v1), (2, .int s8)] [.int u15, .int ((10 + (10 * v1)) + s8), .ref (am + (2 + 1))]) hd KJ)
              · have hd := Tite_t q hd
                refine v_iconst (v := 0) X dX10_readRow_148 (by decide) ?_
                refine v_goto (tgt := 153) X dX10_readRow_149 (by decide) ?_
                exact v_loc [0, 1, 2] rfl (t_at (P := fun (u15 : Int32) m => V K 3 (mkM am hn m) 153 [(0, .ref am), (1, .int v1), (2, .int s8)] [.int u15, .int ((10 + (10 * v1)) + s8), .ref (am + (2 + 1))]) hd KJ)
            · have hd := Tite_t q hd
              refine v_iconst (v := 1) X dX10_readRow_128 (by decide) ?_
              refine v_goto (tgt := 153) X dX10_readRow_129 (by decide) ?_
              exact v_loc [0, 1, 2] rfl (t_at (P := fun (u15 : Int32) m => V K 3 (mkM am hn m) 153 [(0, .ref am), (1, .int v1), (2, .int s8)] [.int u15, .int ((10 + (10 * v1)) + s8), .ref (am + (2 + 1))]) hd KJ)
        · have hd := Tite_f q hd
          refine v_aload_n X dX10_readRow_48 1 0 rfl rfl ?_
          refine t_getI X hd rfl fl_X10_122 dX10_readRow_49 (fun v21 hd => ?_)
          refine v_aload_n X dX10_readRow_52 1 0 rfl rfl ?_
          refine t_getI X hd rfl fl_X10_125 dX10_readRow_53 (fun v22 hd => ?_)
          refine v_isub X dX10_readRow_56 ?_
          refine v_aload_n X dX10_readRow_57 1 0 rfl rfl ?_
          refine t_getA (j := 2) X rfl fl_X10_16 dX10_readRow_58 ?_
          refine v_iconst (v := 0) X dX10_readRow_61 (by decide) ?_
          refine t_iald (j := 2) X hd rfl dX10_readRow_62 (fun v23 hd => ?_)
          refine v_icmp_eq (tgt := 72) X dX10_readRow_63 (by decide) (fun q => ?_) (fun q => ?_)
          · have hd := Tite_t q hd
            refine v_aload_n X dX10_readRow_72 1 0 rfl rfl ?_
            refine t_getA (j := 2) X rfl fl_X10_16 dX10_readRow_73 ?_
            refine v_iconst (v := 0) X dX10_readRow_76 (by decide) ?_
            refine v_aload_n X dX10_readRow_77 1 0 rfl rfl ?_
            refine t_getI X hd rfl fl_X10_122 dX10_readRow_78 (fun v24 hd => ?_)
            refine v_aload_n X dX10_readRow_81 1 0 rfl rfl ?_
            refine t_getI X hd rfl fl_X10_125 dX10_readRow_82 (fun v25 hd => ?_)
            refine v_isub X dX10_readRow_85 ?_
            refine t_iast (j := 2) X hd rfl dX10_readRow_86 (fun ms hd => ?_)
            refine v_iconst (v := 0) X dX10_readRow_87 (by decide) ?_
            refine v_istore_n (lv2 := [(2, .int 0), (1, .int v1), (0, .ref am)]) X dX10_readRow_88 2 rfl (by decide) rfl ?_
            obtain ⟨e29, m1, hd, hd2⟩ := TM.bind_some hd
            have KX : V K 3 (mkM am hn m1) 160 [(0, .ref am)] [] := by
              clear hd
              have hd := hd2
              refine v_aload_n X dX10_readRow_160 0 0 rfl rfl ?_
              refine t_getA (j := 2) X rfl fl_X10_16 dX10_readRow_161 ?_
              refine v_iconst (v := 1) X dX10_readRow_164 (by decide) ?_
              refine v_dup2 X dX10_readRow_165 rfl rfl ?_
              refine t_iald (j := 2) X hd rfl dX10_readRow_166 (fun v37 hd => ?_)
              refine v_iconst (v := 1) X dX10_readRow_167 (by decide) ?_
              refine v_iadd X dX10_readRow_168 ?_
              refine t_iast (j := 2) X hd rfl dX10_readRow_169 (fun ms hd => ?_)
              refine v_aload_n X dX10_readRow_170 0 0 rfl rfl ?_
              refine t_callV X hK hd (ct_X10_go _ am) (lw_V q1876 q1878 qs39 q120 q1879) ⟨rfl, dn_X10_go⟩ rfl ⟨by decide, by decide⟩ rfl (Nat.le_of_ble_eq_true rfl) dX10_readRow_171 (fun v38 ms hd => ?_)
              show V K 3 (mkM am hn ms) 174 [(0, .ref am)] []
              refine v_iconst (v := 1) X dX10_readRow_174 (by decide) ?_
              exact t_zret X hK hd rfl ho dX10_readRow_175
            clear hd2
            refine v_loc [2, 1, 0] rfl ?_
            refine Tloop_ind hd (fun (s26 : Int32) m => V K 3 (mkM am hn m) 89 [(0, .ref am), (1, .int v1), (2, .int s26)] []) (fun s26 ms x m2 hd ih27 ho28 => ?_)
            refine v_iload_n X dX10_readRow_89 2 2 rfl rfl ?_
            refine v_aload_n X dX10_readRow_90 0 0 rfl rfl ?_
            refine t_getA (j := 2) X rfl fl_X10_16 dX10_readRow_91 ?_
            refine v_iconst (v := 0) X dX10_readRow_94 (by decide) ?_
            refine t_iald (j := 2) X hd rfl dX10_readRow_95 (fun v30 hd => ?_)
            refine v_icmp_ge (tgt := 160) X dX10_readRow_96 (by decide) (fun q => ?_) (fun q => ?_)
            · have hd := Tite_t q hd
              exact v_loc [0] rfl (t_at (P := fun (e29 : Unit) m => V K 3 (mkM am hn m) 160 [(0, .ref am)] []) (Tlp_out hd ho28) KX)
            · have hd := Tite_f q hd
              refine v_aload_n X dX10_readRow_99 0 0 rfl rfl ?_
              refine t_getA (j := 2) X rfl fl_X10_16 dX10_readRow_100 ?_
              refine v_bipush (v := 10) X dX10_readRow_103 (by decide) ?_
              refine v_bipush (v := 10) X dX10_readRow_105 (by decide) ?_
              refine v_iload_n X dX10_readRow_107 1 1 rfl rfl ?_
              refine v_imul X dX10_readRow_108 ?_
              refine v_iadd X dX10_readRow_109 ?_
              refine v_iload_n X dX10_readRow_110 2 2 rfl rfl ?_
              refine v_iadd X dX10_readRow_111 ?_
              refine v_aload_n X dX10_readRow_112 0 0 rfl rfl ?_
              refine t_getA (j := 0) X rfl fl_X10_7 dX10_readRow_113 ?_
              refine v_aload_n X dX10_readRow_116 0 0 rfl rfl ?_
              refine t_getI X hd rfl fl_X10_125 dX10_readRow_117 (fun v31 hd => ?_)
              refine v_iload_n X dX10_readRow_120 2 2 rfl rfl ?_
              refine v_iadd X dX10_readRow_121 ?_
              refine t_iald (j := 0) X hd rfl dX10_readRow_122 (fun v32 hd => ?_)
              refine v_bipush (v := 119) X dX10_readRow_123 (by decide) ?_
              obtain ⟨u33, m1, hd, hd2⟩ := TM.bind_some hd
              have KJ : V K 3 (mkM am hn m1) 153 [(0, .ref am), (1, .int v1), (2, .int s26)] [.int u33, .int ((10 + (10 * v1)) + s26), .ref (am + (2 + 1))] := by
                clear hd
                have hd := hd2
                refine t_iast (j := 2) X hd rfl dX10_readRow_153 (fun ms hd => ?_)
                refine t_iincL (lv2 := fun v34 => [(2, .int v34), (0, .ref am), (1, .int v1)]) X hd dX10_readRow_154 2 rfl (by decide : Int32.ofInt 1 = 1) (by decide) (fun v34 => rfl) (fun v34 hd => ?_)
                refine v_goto (tgt := 89) X dX10_readRow_157 (by decide) ?_
                exact v_loc [1, 2, 0] rfl (Tlp_in (P := fun (s26 : Int32) m => V K 3 (mkM am hn m) 89 [(0, .ref am), (1, .int v1), (2, .int s26)] []) hd ih27)
              clear hd2
              refine v_icmp_ne (tgt := 132) X dX10_readRow_125 (by decide) (fun q => ?_) (fun q => ?_)
              · have hd := Tite_f q hd
                refine v_aload_n X dX10_readRow_132 0 0 rfl rfl ?_
                refine t_getA (j := 0) X rfl fl_X10_7 dX10_readRow_133 ?_
                refine v_aload_n X dX10_readRow_136 0 0 rfl rfl ?_
                refine t_getI X hd rfl fl_X10_125 dX10_readRow_137 (fun v35 hd => ?_)
                refine v_iload_n X dX10_readRow_140 2 2 rfl rfl ?_
                refine v_iadd X dX10_readRow_141 ?_
                refine t_iald (j := 0) X hd rfl dX10_readRow_142 (fun v36 hd => ?_)
                refine v_bipush (v := 102) X dX10_readRow_143 (by decide) ?_
                refine v_icmp_ne (tgt := 152) X dX10_readRow_145 (by decide) (fun q => ?_) (fun q => ?_)
                · have hd := Tite_f q hd
                  refine v_iconst (v := 2) X dX10_readRow_152 (by decide) ?_
                  exact v_loc [0, 1, 2] rfl (t_at (P := fun (u33 : Int32) m => V K 3 (mkM am hn m) 153 [(0, .ref am), (1, .int v1), (2, .int s26)] [.int u33, .int ((10 + (10 * v1)) + s26), .ref (am + (2 + 1))]) hd KJ)
                · have hd := Tite_t q hd
                  refine v_iconst (v := 0) X dX10_readRow_148 (by decide) ?_
                  refine v_goto (tgt := 153) X dX10_readRow_149 (by decide) ?_
                  exact v_loc [0, 1, 2] rfl (t_at (P := fun (u33 : Int32) m => V K 3 (mkM am hn m) 153 [(0, .ref am), (1, .int v1), (2, .int s26)] [.int u33, .int ((10 + (10 * v1)) + s26), .ref (am + (2 + 1))]) hd KJ)
              · have hd := Tite_t q hd
                refine v_iconst (v := 1) X dX10_readRow_128 (by decide) ?_
                refine v_goto (tgt := 153) X dX10_readRow_129 (by decide) ?_
                exact v_loc [0, 1, 2] rfl (t_at (P := fun (u33 : Int32) m => V K 3 (mkM am hn m) 153 [(0, .ref am), (1, .int v1), (2, .int s26)] [.int u33, .int ((10 + (10 * v1)) + s26), .ref (am + (2 + 1))]) hd KJ)
          · have hd := Tite_f q hd
            refine v_aload_n X dX10_readRow_66 1 0 rfl rfl ?_
            refine v_iconst (v := 2) X dX10_readRow_67 (by decide) ?_
            refine t_callV X hK hd (ct_X10_bad _ am 2) (lw_V q1913 q1915 qs44 q120 q1916) ⟨rfl, dn_X10_bad⟩ rfl ⟨by decide, by decide⟩ rfl (Nat.le_of_ble_eq_true rfl) dX10_readRow_68 (fun v39 ms hd => ?_)
            show V K 3 (mkM am hn ms) 71 [(1, .int v1), (0, .ref am)] [.int (b2i v39)]
            exact t_zret X hK hd rfl ho dX10_readRow_71
    · have hd := Tite_f q hd
      refine v_aload_n X dX10_readRow_31 1 0 rfl rfl ?_
      refine v_iconst (v := 1) X dX10_readRow_32 (by decide) ?_
      refine t_callV X hK hd (ct_X10_bad _ am 1) (lw_V q1913 q1915 qs44 q120 q1916) ⟨rfl, dn_X10_bad⟩ rfl ⟨by decide, by decide⟩ rfl (Nat.le_of_ble_eq_true rfl) dX10_readRow_33 (fun v40 ms hd => ?_)
      show V K 3 (mkM am hn ms) 36 [(1, .int v1), (0, .ref am)] [.int (b2i v40)]
      exact t_zret X hK hd rfl ho dX10_readRow_36
  · have hd := Tite_t q hd
    refine v_aload_n X dX10_readRow_13 1 0 rfl rfl ?_
    refine v_iconst (v := 4) X dX10_readRow_14 (by decide) ?_
    refine t_callV X hK hd (ct_X10_bad _ am 4) (lw_V q1913 q1915 qs44 q120 q1916) ⟨rfl, dn_X10_bad⟩ rfl ⟨by decide, by decide⟩ rfl (Nat.le_of_ble_eq_true rfl) dX10_readRow_15 (fun v41 ms hd => ?_)
    show V K 3 (mkM am hn ms) 18 [(1, .int v1), (0, .ref am)] [.int (b2i v41)]
    exact t_zret X hK hd rfl ho dX10_readRow_18
