set_option maxRecDepth 100000
def dkwX10_readDraught_5 : List UInt8 := [172]
abbrev dktX10_readDraught_5 : List UInt8 := dkwX10_readDraught_5 ++ []
def dkwX10_readDraught_4 : List UInt8 := [21, 4, 79, 42, 182, 0, 194, 132, 3, 1, 167, 255, 181, 42, 180, 0, 16, 6, 92, 46, 4, 96, 79, 4]
abbrev dktX10_readDraught_4 : List UInt8 := dkwX10_readDraught_4 ++ dktX10_readDraught_5
def dkwX10_readDraught_3 : List UInt8 := [182, 0, 184, 172, 28, 4, 21, 4, 120, 128, 61, 42, 180, 0, 16, 17, 1, 54, 6, 27, 104, 96, 29, 96]
abbrev dktX10_readDraught_3 : List UInt8 := dkwX10_readDraught_3 ++ dktX10_readDraught_4
def dkwX10_readDraught_2 : List UInt8 := [182, 0, 217, 54, 4, 21, 4, 2, 159, 0, 12, 28, 21, 4, 184, 0, 231, 153, 0, 9, 42, 6]
abbrev dktX10_readDraught_2 : List UInt8 := dkwX10_readDraught_2 ++ dktX10_readDraught_3
def dkwX10_readDraught_1 : List UInt8 := [61, 3, 62, 29, 6, 162, 0, 76, 42, 182, 0, 214, 154, 0, 9, 42, 4, 182, 0, 184, 172, 42]
abbrev dktX10_readDraught_1 : List UInt8 := dkwX10_readDraught_1 ++ dktX10_readDraught_2
def dkwX10_readDraught_0 : List UInt8 := [42, 180, 0, 16, 6, 46, 60, 27, 16, 6, 160, 0, 9, 42, 7, 182, 0, 184, 172, 42, 182, 0, 194, 3]
abbrev dktX10_readDraught_0 : List UInt8 := dkwX10_readDraught_0 ++ dktX10_readDraught_1
theorem dksX10_readDraught_0 : cX10_readDraught.data.toList.drop 0 = dktX10_readDraught_0 := by decide +kernel
theorem dksX10_readDraught_1 : cX10_readDraught.data.toList.drop 24 = dktX10_readDraught_1 := dk_seg dksX10_readDraught_0 24 rfl rfl
theorem dksX10_readDraught_2 : cX10_readDraught.data.toList.drop 46 = dktX10_readDraught_2 := dk_seg dksX10_readDraught_1 22 rfl rfl
theorem dksX10_readDraught_3 : cX10_readDraught.data.toList.drop 68 = dktX10_readDraught_3 := dk_seg dksX10_readDraught_2 22 rfl rfl
theorem dksX10_readDraught_4 : cX10_readDraught.data.toList.drop 92 = dktX10_readDraught_4 := dk_seg dksX10_readDraught_3 24 rfl rfl
theorem dksX10_readDraught_5 : cX10_readDraught.data.toList.drop 116 = dktX10_readDraught_5 := dk_seg dksX10_readDraught_4 24 rfl rfl
theorem dX10_readDraught_0 : decode cX10_readDraught 0 = .ok (.aload_n 0, 1) := dk_42 (dk_at dksX10_readDraught_0 0 rfl rfl)
theorem dX10_readDraught_1 : decode cX10_readDraught 1 = .ok (.getfield 16, 3) := dk_180 0 16 (dk_at dksX10_readDraught_0 1 rfl rfl)
theorem dX10_readDraught_4 : decode cX10_readDraught 4 = .ok (.iconst 3, 1) := dk_6 (dk_at dksX10_readDraught_0 4 rfl rfl)
theorem dX10_readDraught_5 : decode cX10_readDraught 5 = .ok (.iaload, 1) := dk_46 (dk_at dksX10_readDraught_0 5 rfl rfl)
theorem dX10_readDraught_6 : decode cX10_readDraught 6 = .ok (.istore_n 1, 1) := dk_60 (dk_at dksX10_readDraught_0 6 rfl rfl)
theorem dX10_readDraught_7 : decode cX10_readDraught 7 = .ok (.iload_n 1, 1) := dk_27 (dk_at dksX10_readDraught_0 7 rfl rfl)
theorem dX10_readDraught_8 : decode cX10_readDraught 8 = .ok (.bipush 6, 2) := dk_16 6 (dk_at dksX10_readDraught_0 8 rfl rfl)
theorem dX10_readDraught_10 : decode cX10_readDraught 10 = .ok (.if_icmp .ne 9, 3) := dk_160 0 9 (dk_at dksX10_readDraught_0 10 rfl rfl)
theorem dX10_readDraught_13 : decode cX10_readDraught 13 = .ok (.aload_n 0, 1) := dk_42 (dk_at dksX10_readDraught_0 13 rfl rfl)
theorem dX10_readDraught_14 : decode cX10_readDraught 14 = .ok (.iconst 4, 1) := dk_7 (dk_at dksX10_readDraught_0 14 rfl rfl)
theorem dX10_readDraught_15 : decode cX10_readDraught 15 = .ok (.invokevirtual 184, 3) := dk_182 0 184 (dk_at dksX10_readDraught_0 15 rfl rfl)
theorem dX10_readDraught_18 : decode cX10_readDraught 18 = .ok (.ireturn, 1) := dk_172 (dk_at dksX10_readDraught_0 18 rfl rfl)
theorem dX10_readDraught_19 : decode cX10_readDraught 19 = .ok (.aload_n 0, 1) := dk_42 (dk_at dksX10_readDraught_0 19 rfl rfl)
theorem dX10_readDraught_20 : decode cX10_readDraught 20 = .ok (.invokevirtual 194, 3) := dk_182 0 194 (dk_at dksX10_readDraught_0 20 rfl rfl)
theorem dX10_readDraught_23 : decode cX10_readDraught 23 = .ok (.iconst 0, 1) := dk_3 (dk_at dksX10_readDraught_0 23 rfl rfl)
theorem dX10_readDraught_24 : decode cX10_readDraught 24 = .ok (.istore_n 2, 1) := dk_61 (dk_at dksX10_readDraught_1 0 rfl rfl)
theorem dX10_readDraught_25 : decode cX10_readDraught 25 = .ok (.iconst 0, 1) := dk_3 (dk_at dksX10_readDraught_1 1 rfl rfl)
theorem dX10_readDraught_26 : decode cX10_readDraught 26 = .ok (.istore_n 3, 1) := dk_62 (dk_at dksX10_readDraught_1 2 rfl rfl)
theorem dX10_readDraught_27 : decode cX10_readDraught 27 = .ok (.iload_n 3, 1) := dk_29 (dk_at dksX10_readDraught_1 3 rfl rfl)
theorem dX10_readDraught_28 : decode cX10_readDraught 28 = .ok (.iconst 3, 1) := dk_6 (dk_at dksX10_readDraught_1 4 rfl rfl)
theorem dX10_readDraught_29 : decode cX10_readDraught 29 = .ok (.if_icmp .ge 76, 3) := dk_162 0 76 (dk_at dksX10_readDraught_1 5 rfl rfl)
theorem dX10_readDraught_32 : decode cX10_readDraught 32 = .ok (.aload_n 0, 1) := dk_42 (dk_at dksX10_readDraught_1 8 rfl rfl)
theorem dX10_readDraught_33 : decode cX10_readDraught 33 = .ok (.invokevirtual 214, 3) := dk_182 0 214 (dk_at dksX10_readDraught_1 9 rfl rfl)
theorem dX10_readDraught_36 : decode cX10_readDraught 36 = .ok (.ifCond .ne 9, 3) := dk_154 0 9 (dk_at dksX10_readDraught_1 12 rfl rfl)
theorem dX10_readDraught_39 : decode cX10_readDraught 39 = .ok (.aload_n 0, 1) := dk_42 (dk_at dksX10_readDraught_1 15 rfl rfl)
theorem dX10_readDraught_40 : decode cX10_readDraught 40 = .ok (.iconst 1, 1) := dk_4 (dk_at dksX10_readDraught_1 16 rfl rfl)
theorem dX10_readDraught_41 : decode cX10_readDraught 41 = .ok (.invokevirtual 184, 3) := dk_182 0 184 (dk_at dksX10_readDraught_1 17 rfl rfl)
theorem dX10_readDraught_44 : decode cX10_readDraught 44 = .ok (.ireturn, 1) := dk_172 (dk_at dksX10_readDraught_1 20 rfl rfl)
theorem dX10_readDraught_45 : decode cX10_readDraught 45 = .ok (.aload_n 0, 1) := dk_42 (dk_at dksX10_readDraught_1 21 rfl rfl)
theorem dX10_readDraught_46 : decode cX10_readDraught 46 = .ok (.invokevirtual 217, 3) := dk_182 0 217 (dk_at dksX10_readDraught_2 0 rfl rfl)
theorem dX10_readDraught_49 : decode cX10_readDraught 49 = .ok (.istore 4, 2) := dk_54 4 (dk_at dksX10_readDraught_2 3 rfl rfl)
theorem dX10_readDraught_51 : decode cX10_readDraught 51 = .ok (.iload 4, 2) := dk_21 4 (dk_at dksX10_readDraught_2 5 rfl rfl)
theorem dX10_readDraught_53 : decode cX10_readDraught 53 = .ok (.iconst (-1), 1) := dk_2 (dk_at dksX10_readDraught_2 7 rfl rfl)
theorem dX10_readDraught_54 : decode cX10_readDraught 54 = .ok (.if_icmp .eq 12, 3) := dk_159 0 12 (dk_at dksX10_readDraught_2 8 rfl rfl)
theorem dX10_readDraught_57 : decode cX10_readDraught 57 = .ok (.iload_n 2, 1) := dk_28 (dk_at dksX10_readDraught_2 11 rfl rfl)
theorem dX10_readDraught_58 : decode cX10_readDraught 58 = .ok (.iload 4, 2) := dk_21 4 (dk_at dksX10_readDraught_2 12 rfl rfl)
theorem dX10_readDraught_60 : decode cX10_readDraught 60 = .ok (.invokestatic 231, 3) := dk_184 0 231 (dk_at dksX10_readDraught_2 14 rfl rfl)
theorem dX10_readDraught_63 : decode cX10_readDraught 63 = .ok (.ifCond .eq 9, 3) := dk_153 0 9 (dk_at dksX10_readDraught_2 17 rfl rfl)
theorem dX10_readDraught_66 : decode cX10_readDraught 66 = .ok (.aload_n 0, 1) := dk_42 (dk_at dksX10_readDraught_2 20 rfl rfl)
theorem dX10_readDraught_67 : decode cX10_readDraught 67 = .ok (.iconst 3, 1) := dk_6 (dk_at dksX10_readDraught_2 21 rfl rfl)
theorem dX10_readDraught_68 : decode cX10_readDraught 68 = .ok (.invokevirtual 184, 3) := dk_182 0 184 (dk_at dksX10_readDraught_3 0 rfl rfl)
theorem dX10_readDraught_71 : decode cX10_readDraught 71 = .ok (.ireturn, 1) := dk_172 (dk_at dksX10_readDraught_3 3 rfl rfl)
theorem dX10_readDraught_72 : decode cX10_readDraught 72 = .ok (.iload_n 2, 1) := dk_28 (dk_at dksX10_readDraught_3 4 rfl rfl)
theorem dX10_readDraught_73 : decode cX10_readDraught 73 = .ok (.iconst 1, 1) := dk_4 (dk_at dksX10_readDraught_3 5 rfl rfl)
theorem dX10_readDraught_74 : decode cX10_readDraught 74 = .ok (.iload 4, 2) := dk_21 4 (dk_at dksX10_readDraught_3 6 rfl rfl)
theorem dX10_readDraught_76 : decode cX10_readDraught 76 = .ok (.ishl, 1) := dk_120 (dk_at dksX10_readDraught_3 8 rfl rfl)
theorem dX10_readDraught_77 : decode cX10_readDraught 77 = .ok (.ior, 1) := dk_128 (dk_at dksX10_readDraught_3 9 rfl rfl)
theorem dX10_readDraught_78 : decode cX10_readDraught 78 = .ok (.istore_n 2, 1) := dk_61 (dk_at dksX10_readDraught_3 10 rfl rfl)
theorem dX10_readDraught_79 : decode cX10_readDraught 79 = .ok (.aload_n 0, 1) := dk_42 (dk_at dksX10_readDraught_3 11 rfl rfl)
theorem dX10_readDraught_80 : decode cX10_readDraught 80 = .ok (.getfield 16, 3) := dk_180 0 16 (dk_at dksX10_readDraught_3 12 rfl rfl)
theorem dX10_readDraught_83 : decode cX10_readDraught 83 = .ok (.sipush 310, 3) := dk_17 1 54 (dk_at dksX10_readDraught_3 15 rfl rfl)
theorem dX10_readDraught_86 : decode cX10_readDraught 86 = .ok (.iconst 3, 1) := dk_6 (dk_at dksX10_readDraught_3 18 rfl rfl)
theorem dX10_readDraught_87 : decode cX10_readDraught 87 = .ok (.iload_n 1, 1) := dk_27 (dk_at dksX10_readDraught_3 19 rfl rfl)
theorem dX10_readDraught_88 : decode cX10_readDraught 88 = .ok (.imul, 1) := dk_104 (dk_at dksX10_readDraught_3 20 rfl rfl)
theorem dX10_readDraught_89 : decode cX10_readDraught 89 = .ok (.iadd, 1) := dk_96 (dk_at dksX10_readDraught_3 21 rfl rfl)
theorem dX10_readDraught_90 : decode cX10_readDraught 90 = .ok (.iload_n 3, 1) := dk_29 (dk_at dksX10_readDraught_3 22 rfl rfl)
theorem dX10_readDraught_91 : decode cX10_readDraught 91 = .ok (.iadd, 1) := dk_96 (dk_at dksX10_readDraught_3 23 rfl rfl)
theorem dX10_readDraught_92 : decode cX10_readDraught 92 = .ok (.iload 4, 2) := dk_21 4 (dk_at dksX10_readDraught_4 0 rfl rfl)
theorem dX10_readDraught_94 : decode cX10_readDraught 94 = .ok (.iastore, 1) := dk_79 (dk_at dksX10_readDraught_4 2 rfl rfl)
theorem dX10_readDraught_95 : decode cX10_readDraught 95 = .ok (.aload_n 0, 1) := dk_42 (dk_at dksX10_readDraught_4 3 rfl rfl)
theorem dX10_readDraught_96 : decode cX10_readDraught 96 = .ok (.invokevirtual 194, 3) := dk_182 0 194 (dk_at dksX10_readDraught_4 4 rfl rfl)
theorem dX10_readDraught_99 : decode cX10_readDraught 99 = .ok (.iinc 3 1, 3) := dk_132 3 1 (dk_at dksX10_readDraught_4 7 rfl rfl)
theorem dX10_readDraught_102 : decode cX10_readDraught 102 = .ok (.goto (-75), 3) := dk_167 255 181 (dk_at dksX10_readDraught_4 10 rfl rfl)
theorem dX10_readDraught_105 : decode cX10_readDraught 105 = .ok (.aload_n 0, 1) := dk_42 (dk_at dksX10_readDraught_4 13 rfl rfl)
theorem dX10_readDraught_106 : decode cX10_readDraught 106 = .ok (.getfield 16, 3) := dk_180 0 16 (dk_at dksX10_readDraught_4 14 rfl rfl)
theorem dX10_readDraught_109 : decode cX10_readDraught 109 = .ok (.iconst 3, 1) := dk_6 (dk_at dksX10_readDraught_4 17 rfl rfl)
theorem dX10_readDraught_110 : decode cX10_readDraught 110 = .ok (.dup2, 1) := dk_92 (dk_at dksX10_readDraught_4 18 rfl rfl)
theorem dX10_readDraught_111 : decode cX10_readDraught 111 = .ok (.iaload, 1) := dk_46 (dk_at dksX10_readDraught_4 19 rfl rfl)
theorem dX10_readDraught_112 : decode cX10_readDraught 112 = .ok (.iconst 1, 1) := dk_4 (dk_at dksX10_readDraught_4 20 rfl rfl)
theorem dX10_readDraught_113 : decode cX10_readDraught 113 = .ok (.iadd, 1) := dk_96 (dk_at dksX10_readDraught_4 21 rfl rfl)
theorem dX10_readDraught_114 : decode cX10_readDraught 114 = .ok (.iastore, 1) := dk_79 (dk_at dksX10_readDraught_4 22 rfl rfl)
theorem dX10_readDraught_115 : decode cX10_readDraught 115 = .ok (.iconst 1, 1) := dk_4 (dk_at dksX10_readDraught_4 23 rfl rfl)
theorem dX10_readDraught_116 : decode cX10_readDraught 116 = .ok (.ireturn, 1) := dk_172 (dk_at dksX10_readDraught_5 0 rfl rfl)
theorem dn_X10_readDraught : yX10_readDraught.cls ≠ "java/lang/invoke/MethodHandle" ∧ yX10_readDraught.cls ≠ "java/lang/invoke/VarHandle" ∧ (parseMethodDescriptor yX10_readDraught.desc).map (fun d => d.parameters.length) = some 0 := by decide +kernel
noncomputable def M_X10_readDraught  : TM Bool := TM.bind (tA 15 330 3) (fun v1 => if v1 = 6 then TM.bind (M_X10_bad 4) (fun v16 => TM.pure v16) else TM.bind (M_X10_go) (fun v2 => TM.loop (S := Int32 × Int32) (fun s3 => if 3 ≤ s3.2 then TM.bind (tA 15 330 3) (fun v6 => TM.bind (sA 15 330 3 (v6 + 1)) (fun _ => TM.pure (Sum.inr true))) else TM.bind (M_X10_isName) (fun v7 => cond v7 (TM.bind (M_X10_findRead) (fun v8 => if v8 = (-1) then TM.bind (M_X10_bad 3) (fun v9 => TM.pure (Sum.inr v9)) else TM.bind (M_X10_has s3.1 v8) (fun v10 => cond v10 (TM.bind (M_X10_bad 3) (fun v14 => TM.pure (Sum.inr v14))) (TM.lv (s3.1 ||| (1 <<< (v8 &&& 31))) (fun v11 => TM.bind (sA 15 330 ((310 + (3 * v1)) + s3.2) v8) (fun _ => TM.bind (M_X10_go) (fun v12 => TM.lv (s3.2 + 1) (fun v13 => TM.pure (Sum.inl (v11, v13)))))))))) (TM.bind (M_X10_bad 1) (fun v15 => TM.pure (Sum.inr v15))))) (0, 0)))
set_option maxHeartbeats 4000000 in
theorem ct_X10_readDraught (G : gG) (am : Nat)  : gCtM G am yX10_readDraught cX10_readDraught 5 (some .boolean) 3 67 [.ref am] (M_X10_readDraught) (fun x : Bool => some (.int (b2i x))) := by
  refine gCtM.of (by decide) (Nat.le_of_ble_eq_true rfl) (fun K hn ms ms' r hG X hK hd ho => ?_)
  subst hG
  have X : gX K cX10_readDraught 5 "BitingDoorsModel" "readDraught" (some .boolean) 3 67 := X
  show V K 5 (mkM am hn ms) 0 [(0, .ref am)] []
  unfold M_X10_readDraught at hd
  refine v_aload_n X dX10_readDraught_0 0 0 rfl rfl ?_
  refine t_getA (j := 2) X rfl fl_X10_16 dX10_readDraught_1 ?_
  refine v_iconst (v := 3) X dX10_readDraught_4 (by decide) ?_
  refine t_iald (j := 2) X hd rfl dX10_readDraught_5 (fun v1 hd => ?_)
  refine v_istore_n (lv2 := [(1, .int v1), (0, .ref am)]) X dX10_readDraught_6 1 rfl (by decide) rfl ?_
  refine v_iload_n X dX10_readDraught_7 0 1 rfl rfl ?_
  refine v_bipush (v := 6) X dX10_readDraught_8 (by decide) ?_
  refine v_icmp_ne (tgt := 19) X dX10_readDraught_10 (by decide) (fun q => ?_) (fun q => ?_)
  · have hd := Tite_f q hd
    refine v_aload_n X dX10_readDraught_19 1 0 rfl rfl ?_
    refine t_callV X hK hd (ct_X10_go _ am) (lw_V q1876 q1878 qs39 q120 q1879) ⟨rfl, dn_X10_go⟩ rfl ⟨by decide, by decide⟩ rfl (Nat.le_of_ble_eq_true rfl) dX10_readDraught_20 (fun v2 ms hd => ?_)
    show V K 5 (mkM am hn ms) 23 [(1, .int v1), (0, .ref am)] []
    refine v_iconst (v := 0) X dX10_readDraught_23 (by decide) ?_
    refine v_istore_n (lv2 := [(2, .int 0), (1, .int v1), (0, .ref am)]) X dX10_readDraught_24 2 rfl (by decide) rfl ?_
    refine v_iconst (v := 0) X dX10_readDraught_25 (by decide) ?_
    refine v_istore_n (lv2 := [(3, .int 0), (2, .int 0), (1, .int v1), (0, .ref am)]) X dX10_readDraught_26 3 rfl (by decide) rfl ?_
    refine v_loc [3, 2, 1, 0] rfl ?_
    refine Tloop_ind hd (fun (s3 : Int32 × Int32) m => V K 5 (mkM am hn m) 27 [(0, .ref am), (1, .int v1), (2, .int s3.1), (3, .int s3.2)] []) (fun s3 ms x m2 hd ih4 ho5 => ?_)
    refine v_iload_n X dX10_readDraught_27 3 3 rfl rfl ?_
    refine v_iconst (v := 3) X dX10_readDraught_28 (by decide) ?_
    refine v_icmp_ge (tgt := 105) X dX10_readDraught_29 (by decide) (fun q => ?_) (fun q => ?_)
    · have hd := Tite_t q hd
      refine v_aload_n X dX10_readDraught_105 0 0 rfl rfl ?_
      refine t_getA (j := 2) X rfl fl_X10_16 dX10_readDraught_106 ?_
      refine v_iconst (v := 3) X dX10_readDraught_109 (by decide) ?_
      refine v_dup2 X dX10_readDraught_110 rfl rfl ?_
      refine t_iald (j := 2) X hd rfl dX10_readDraught_111 (fun v6 hd => ?_)
      refine v_iconst (v := 1) X dX10_readDraught_112 (by decide) ?_
      refine v_iadd X dX10_readDraught_113 ?_
      refine t_iast (j := 2) X hd rfl dX10_readDraught_114 (fun ms hd => ?_)
      refine v_iconst (v := 1) X dX10_readDraught_115 (by decide) ?_
      have hd := Tlp_out hd ho5
      exact t_zret X hK hd rfl ho dX10_readDraught_116
    · have hd := Tite_f q hd
      refine v_aload_n X dX10_readDraught_32 0 0 rfl rfl ?_
      refine t_callV X hK hd (ct_X10_isName _ am) (lw_V q1928 q1930 qs47 q120 q1931) ⟨rfl, dn_X10_isName⟩ rfl ⟨by decide, by decide⟩ rfl (Nat.le_of_ble_eq_true rfl) dX10_readDraught_33 (fun v7 ms hd => ?_)
      show V K 5 (mkM am hn ms) 36 [(0, .ref am), (1, .int v1), (2, .int s3.1), (3, .int s3.2)] [.int (b2i v7)]
      refine v_ifZ_ne (tgt := 45) X dX10_readDraught_36 (by decide) (fun q => ?_) (fun q => ?_)
      · have hd := Tcnd_t q hd
        refine v_aload_n X dX10_readDraught_45 0 0 rfl rfl ?_
        refine t_callV X hK hd (ct_X10_findRead _ am) (lw_V q1932 q1934 qs48 q120 q1935) ⟨rfl, dn_X10_findRead⟩ rfl ⟨by decide, by decide⟩ rfl (Nat.le_of_ble_eq_true rfl) dX10_readDraught_46 (fun v8 ms hd => ?_)
        show V K 5 (mkM am hn ms) 49 [(0, .ref am), (1, .int v1), (2, .int s3.1), (3, .int s3.2)] [.int v8]
        refine v_istore (lv2 := [(4, .int v8), (0, .ref am), (1, .int v1), (2, .int s3.1), (3, .int s3.2)]) X dX10_readDraught_49 (by decide) rfl ?_
        refine v_iload X dX10_readDraught_51 0 rfl ?_
        refine v_iconst (v := (-1)) X dX10_readDraught_53 (by decide) ?_
        refine v_icmp_eq (tgt := 66) X dX10_readDraught_54 (by decide) (fun q => ?_) (fun q => ?_)
        · have hd := Tite_t q hd
          refine v_aload_n X dX10_readDraught_66 1 0 rfl rfl ?_
          refine v_iconst (v := 3) X dX10_readDraught_67 (by decide) ?_
          refine t_callV X hK hd (ct_X10_bad _ am 3) (lw_V q1913 q1915 qs44 q120 q1916) ⟨rfl, dn_X10_bad⟩ rfl ⟨by decide, by decide⟩ rfl (Nat.le_of_ble_eq_true rfl) dX10_readDraught_68 (fun v9 ms hd => ?_)
          show V K 5 (mkM am hn ms) 71 [(4, .int v8), (0, .ref am), (1, .int v1), (2, .int s3.1), (3, .int s3.2)] [.int (b2i v9)]
          have hd := Tlp_out hd ho5
          exact t_zret X hK hd rfl ho dX10_readDraught_71
        · have hd := Tite_f q hd
          refine v_iload_n X dX10_readDraught_57 3 2 rfl rfl ?_
          refine v_iload X dX10_readDraught_58 0 rfl ?_
          refine t_callS X hK hd (ct_X10_has _ am s3.1 v8) (lw_S q1947 q1948 q120 q1949) dn_X10_has rfl ⟨by decide, by decide⟩ rfl (Nat.le_of_ble_eq_true rfl) dX10_readDraught_60 (fun v10 ms hd => ?_)
          show V K 5 (mkM am hn ms) 63 [(4, .int v8), (0, .ref am), (1, .int v1), (2, .int s3.1), (3, .int s3.2)] [.int (b2i v10)]
          refine v_ifZ_eq (tgt := 72) X dX10_readDraught_63 (by decide) (fun q => ?_) (fun q => ?_)
          · have hd := Tcnd_f q hd
            refine v_iload_n X dX10_readDraught_72 3 2 rfl rfl ?_
            refine v_iconst (v := 1) X dX10_readDraught_73 (by decide) ?_
            refine v_iload X dX10_readDraught_74 0 rfl ?_
            refine v_ishl X dX10_readDraught_76 ?_
            refine v_ior X dX10_readDraught_77 ?_
            refine t_lvI hd (fun v11 hd => ?_)
            refine v_istore_n (lv2 := [(2, .int v11), (4, .int v8), (0, .ref am), (1, .int v1), (3, .int s3.2)]) X dX10_readDraught_78 2 rfl (by decide) rfl ?_
            refine v_aload_n X dX10_readDraught_79 2 0 rfl rfl ?_
            refine t_getA (j := 2) X rfl fl_X10_16 dX10_readDraught_80 ?_
            refine v_sipush (v := 310) X dX10_readDraught_83 (by decide) ?_
            refine v_iconst (v := 3) X dX10_readDraught_86 (by decide) ?_
            refine v_iload_n X dX10_readDraught_87 3 1 rfl rfl ?_
            refine v_imul X dX10_readDraught_88 ?_
            refine v_iadd X dX10_readDraught_89 ?_
            refine v_iload_n X dX10_readDraught_90 4 3 rfl rfl ?_
            refine v_iadd X dX10_readDraught_91 ?_
            refine v_iload X dX10_readDraught_92 1 rfl ?_
            refine t_iast (j := 2) X hd rfl dX10_readDraught_94 (fun ms hd => ?_)
            refine v_aload_n X dX10_readDraught_95 2 0 rfl rfl ?_
            refine t_callV X hK hd (ct_X10_go _ am) (lw_V q1876 q1878 qs39 q120 q1879) ⟨rfl, dn_X10_go⟩ rfl ⟨by decide, by decide⟩ rfl (Nat.le_of_ble_eq_true rfl) dX10_readDraught_96 (fun v12 ms hd => ?_)
            show V K 5 (mkM am hn ms) 99 [(2, .int v11), (4, .int v8), (0, .ref am), (1, .int v1), (3, .int s3.2)] []
            refine t_iincL (lv2 := fun v13 => [(3, .int v13), (2, .int v11), (4, .int v8), (0, .ref am), (1, .int v1)]) X hd dX10_readDraught_99 4 rfl (by decide : Int32.ofInt 1 = 1) (by decide) (fun v13 => rfl) (fun v13 hd => ?_)
            refine v_goto (tgt := 27) X dX10_readDraught_102 (by decide) ?_
            exact v_loc [3, 4, 1, 0] rfl (Tlp_in (P := fun (s3 : Int32 × Int32) m => V K 5 (mkM am hn m) 27 [(0, .ref am), (1, .int v1), (2, .int s3.1), (3, .int s3.2)] []) hd ih4)
          · have hd := Tcnd_t q hd
            refine v_aload_n X dX10_readDraught_66 1 0 rfl rfl ?_
            refine v_iconst (v := 3) X dX10_readDraught_67 (by decide) ?_
            refine t_callV X hK hd (ct_X10_bad _ am 3) (lw_V q1913 q1915 qs44 q120 q1916) ⟨rfl, dn_X10_bad⟩ rfl ⟨by decide, by decide⟩ rfl (Nat.le_of_ble_eq_true rfl) dX10_readDraught_68 (fun v14 ms hd => ?_)
            show V K 5 (mkM am hn ms) 71 [(4, .int v8), (0, .ref am), (1, .int v1), (2, .int s3.1), (3, .int s3.2)] [.int (b2i v14)]
            have hd := Tlp_out hd ho5
            exact t_zret X hK hd rfl ho dX10_readDraught_71
      · have hd := Tcnd_f q hd
        refine v_aload_n X dX10_readDraught_39 0 0 rfl rfl ?_
        refine v_iconst (v := 1) X dX10_readDraught_40 (by decide) ?_
        refine t_callV X hK hd (ct_X10_bad _ am 1) (lw_V q1913 q1915 qs44 q120 q1916) ⟨rfl, dn_X10_bad⟩ rfl ⟨by decide, by decide⟩ rfl (Nat.le_of_ble_eq_true rfl) dX10_readDraught_41 (fun v15 ms hd => ?_)
        show V K 5 (mkM am hn ms) 44 [(0, .ref am), (1, .int v1), (2, .int s3.1), (3, .int s3.2)] [.int (b2i v15)]
        have hd := Tlp_out hd ho5
        exact t_zret X hK hd rfl ho dX10_readDraught_44
  · have hd := Tite_t q hd
    refine v_aload_n X dX10_readDraught_13 1 0 rfl rfl ?_
    refine v_iconst (v := 4) X dX10_readDraught_14 (by decide) ?_
    refine t_callV X hK hd (ct_X10_bad _ am 4) (lw_V q1913 q1915 qs44 q120 q1916) ⟨rfl, dn_X10_bad⟩ rfl ⟨by decide, by decide⟩ rfl (Nat.le_of_ble_eq_true rfl) dX10_readDraught_15 (fun v16 ms hd => ?_)
    show V K 5 (mkM am hn ms) 18 [(1, .int v1), (0, .ref am)] [.int (b2i v16)]
    exact t_zret X hK hd rfl ho dX10_readDraught_18
def dkwX10_isAct_1 : List UInt8 := [167, 0, 4, 3, 172]
abbrev dktX10_isAct_1 : List UInt8 := dkwX10_isAct_1 ++ []
def dkwX10_isAct_0 : List UInt8 := [27, 2, 159, 0, 19, 27, 3, 6, 5, 42, 182, 0, 211, 104, 96, 184, 0, 187, 153, 0, 7, 4]
abbrev dktX10_isAct_0 : List UInt8 := dkwX10_isAct_0 ++ dktX10_isAct_1
theorem dksX10_isAct_0 : cX10_isAct.data.toList.drop 0 = dktX10_isAct_0 := by decide +kernel
theorem dksX10_isAct_1 : cX10_isAct.data.toList.drop 22 = dktX10_isAct_1 := dk_seg dksX10_isAct_0 22 rfl rfl
theorem dX10_isAct_0 : decode cX10_isAct 0 = .ok (.iload_n 1, 1) := dk_27 (dk_at dksX10_isAct_0 0 rfl rfl)
theorem dX10_isAct_1 : decode cX10_isAct 1 = .ok (.iconst (-1), 1) := dk_2 (dk_at dksX10_isAct_0 1 rfl rfl)
theorem dX10_isAct_2 : decode cX10_isAct 2 = .ok (.if_icmp .eq 19, 3) := dk_159 0 19 (dk_at dksX10_isAct_0 2 rfl rfl)
theorem dX10_isAct_5 : decode cX10_isAct 5 = .ok (.iload_n 1, 1) := dk_27 (dk_at dksX10_isAct_0 5 rfl rfl)
theorem dX10_isAct_6 : decode cX10_isAct 6 = .ok (.iconst 0, 1) := dk_3 (dk_at dksX10_isAct_0 6 rfl rfl)
theorem dX10_isAct_7 : decode cX10_isAct 7 = .ok (.iconst 3, 1) := dk_6 (dk_at dksX10_isAct_0 7 rfl rfl)
theorem dX10_isAct_8 : decode cX10_isAct 8 = .ok (.iconst 2, 1) := dk_5 (dk_at dksX10_isAct_0 8 rfl rfl)
theorem dX10_isAct_9 : decode cX10_isAct 9 = .ok (.aload_n 0, 1) := dk_42 (dk_at dksX10_isAct_0 9 rfl rfl)
theorem dX10_isAct_10 : decode cX10_isAct 10 = .ok (.invokevirtual 211, 3) := dk_182 0 211 (dk_at dksX10_isAct_0 10 rfl rfl)
theorem dX10_isAct_13 : decode cX10_isAct 13 = .ok (.imul, 1) := dk_104 (dk_at dksX10_isAct_0 13 rfl rfl)
theorem dX10_isAct_14 : decode cX10_isAct 14 = .ok (.iadd, 1) := dk_96 (dk_at dksX10_isAct_0 14 rfl rfl)
theorem dX10_isAct_15 : decode cX10_isAct 15 = .ok (.invokestatic 187, 3) := dk_184 0 187 (dk_at dksX10_isAct_0 15 rfl rfl)
theorem dX10_isAct_18 : decode cX10_isAct 18 = .ok (.ifCond .eq 7, 3) := dk_153 0 7 (dk_at dksX10_isAct_0 18 rfl rfl)
theorem dX10_isAct_21 : decode cX10_isAct 21 = .ok (.iconst 1, 1) := dk_4 (dk_at dksX10_isAct_0 21 rfl rfl)
theorem dX10_isAct_22 : decode cX10_isAct 22 = .ok (.goto 4, 3) := dk_167 0 4 (dk_at dksX10_isAct_1 0 rfl rfl)
theorem dX10_isAct_25 : decode cX10_isAct 25 = .ok (.iconst 0, 1) := dk_3 (dk_at dksX10_isAct_1 3 rfl rfl)
theorem dX10_isAct_26 : decode cX10_isAct 26 = .ok (.ireturn, 1) := dk_172 (dk_at dksX10_isAct_1 4 rfl rfl)
theorem dn_X10_isAct : yX10_isAct.cls ≠ "java/lang/invoke/MethodHandle" ∧ yX10_isAct.cls ≠ "java/lang/invoke/VarHandle" ∧ (parseMethodDescriptor yX10_isAct.desc).map (fun d => d.parameters.length) = some 1 := by decide +kernel
noncomputable def M_X10_isAct (p1 : Int32) : TM Bool := TM.bind ((if p1 = (-1) then TM.pure true else TM.bind (M_X10_doors) (fun v2 => TM.bind (M_X10_isIn p1 0 (3 + (2 * v2))) (fun v3 => cond v3 (TM.pure true) (TM.pure false))) : TM (Bool))) (fun u1 => TM.pure u1)
set_option maxHeartbeats 4000000 in
theorem ct_X10_isAct (G : gG) (am : Nat) (p1 : Int32) : gCtM G am yX10_isAct cX10_isAct 2 (some .boolean) 1 22 [.ref am, .int p1] (M_X10_isAct p1) (fun x : Bool => some (.int (b2i x))) := by
  refine gCtM.of (by decide) (Nat.le_of_ble_eq_true rfl) (fun K hn ms ms' r hG X hK hd ho => ?_)
  subst hG
  have X : gX K cX10_isAct 2 "BitingDoorsModel" "isAct" (some .boolean) 1 22 := X
  show V K 2 (mkM am hn ms) 0 [(0, .ref am), (1, .int p1)] []
  unfold M_X10_isAct at hd
  refine v_iload_n X dX10_isAct_0 1 1 rfl rfl ?_
  refine v_iconst (v := (-1)) X dX10_isAct_1 (by decide) ?_
  obtain ⟨u1, m1, hd, hd2⟩ := TM.bind_some hd
  have KJ : V K 2 (mkM am hn m1) 26 [] [.int (b2i u1)] := by
    clear hd
    have hd := hd2
    exact t_zret X hK hd rfl ho dX10_isAct_26
  clear hd2
  refine v_icmp_eq (tgt := 21) X dX10_isAct_2 (by decide) (fun q => ?_) (fun q => ?_)
  · have hd := Tite_t q hd
    refine v_iconst (v := 1) X dX10_isAct_21 (by decide) ?_
    refine v_goto (tgt := 26) X dX10_isAct_22 (by decide) ?_
    exact v_loc [] rfl (t_at (P := fun (u1 : Bool) m => V K 2 (mkM am hn m) 26 [] [.int (b2i u1)]) hd KJ)
  · have hd := Tite_f q hd
    refine v_iload_n X dX10_isAct_5 1 1 rfl rfl ?_
    refine v_iconst (v := 0) X dX10_isAct_6 (by decide) ?_
    refine v_iconst (v := 3) X dX10_isAct_7 (by decide) ?_
    refine v_iconst (v := 2) X dX10_isAct_8 (by decide) ?_
    refine v_aload_n X dX10_isAct_9 0 0 rfl rfl ?_
    refine t_callV X hK hd (ct_X10_doors _ am) (lw_V q1986 q1988 qs57 q120 q1989) ⟨rfl, dn_X10_doors⟩ rfl ⟨by decide, by decide⟩ rfl (Nat.le_of_ble_eq_true rfl) dX10_isAct_10 (fun v2 ms hd => ?_)
    show V K 2 (mkM am hn ms) 13 [(0, .ref am), (1, .int p1)] [.int v2, .int 2, .int 3, .int 0, .int p1]
    refine v_imul X dX10_isAct_13 ?_
    refine v_iadd X dX10_isAct_14 ?_
    refine t_callS X hK hd (ct_X10_isIn _ am p1 0 (3 + (2 * v2))) (lw_S q1940 q1941 q120 q1942) dn_X10_isIn rfl ⟨by decide, by decide⟩ rfl (Nat.le_of_ble_eq_true rfl) dX10_isAct_15 (fun v3 ms hd => ?_)
    show V K 2 (mkM am hn ms) 18 [(0, .ref am), (1, .int p1)] [.int (b2i v3)]
    refine v_ifZ_eq (tgt := 25) X dX10_isAct_18 (by decide) (fun q => ?_) (fun q => ?_)
    · have hd := Tcnd_f q hd
      refine v_iconst (v := 0) X dX10_isAct_25 (by decide) ?_
      exact v_loc [] rfl (t_at (P := fun (u1 : Bool) m => V K 2 (mkM am hn m) 26 [] [.int (b2i u1)]) hd KJ)
    · have hd := Tcnd_t q hd
      refine v_iconst (v := 1) X dX10_isAct_21 (by decide) ?_
      refine v_goto (tgt := 26) X dX10_isAct_22 (by decide) ?_
      exact v_loc [] rfl (t_at (P := fun (u1 : Bool) m => V K 2 (mkM am hn m) 26 [] [.int (b2i u1)]) hd KJ)
def dkwX10_keepNow_1 : List UInt8 := [132, 1, 1, 167, 255, 231, 42, 180, 0, 13, 17, 1, 84, 42, 180, 1, 98, 79, 177]
abbrev dktX10_keepNow_1 : List UInt8 := dkwX10_keepNow_1 ++ []
def dkwX10_keepNow_0 : List UInt8 := [3, 60, 27, 16, 10, 162, 0, 25, 42, 180, 0, 13, 17, 1, 74, 27, 96, 42, 180, 0, 78, 27, 46, 79]
abbrev dktX10_keepNow_0 : List UInt8 := dkwX10_keepNow_0 ++ dktX10_keepNow_1
theorem dksX10_keepNow_0 : cX10_keepNow.data.toList.drop 0 = dktX10_keepNow_0 := by decide +kernel
theorem dksX10_keepNow_1 : cX10_keepNow.data.toList.drop 24 = dktX10_keepNow_1 := dk_seg dksX10_keepNow_0 24 rfl rfl
theorem dX10_keepNow_0 : decode cX10_keepNow 0 = .ok (.iconst 0, 1) := dk_3 (dk_at dksX10_keepNow_0 0 rfl rfl)
theorem dX10_keepNow_1 : decode cX10_keepNow 1 = .ok (.istore_n 1, 1) := dk_60 (dk_at dksX10_keepNow_0 1 rfl rfl)
theorem dX10_keepNow_2 : decode cX10_keepNow 2 = .ok (.iload_n 1, 1) := dk_27 (dk_at dksX10_keepNow_0 2 rfl rfl)
theorem dX10_keepNow_3 : decode cX10_keepNow 3 = .ok (.bipush 10, 2) := dk_16 10 (dk_at dksX10_keepNow_0 3 rfl rfl)
theorem dX10_keepNow_5 : decode cX10_keepNow 5 = .ok (.if_icmp .ge 25, 3) := dk_162 0 25 (dk_at dksX10_keepNow_0 5 rfl rfl)
theorem dX10_keepNow_8 : decode cX10_keepNow 8 = .ok (.aload_n 0, 1) := dk_42 (dk_at dksX10_keepNow_0 8 rfl rfl)
theorem dX10_keepNow_9 : decode cX10_keepNow 9 = .ok (.getfield 13, 3) := dk_180 0 13 (dk_at dksX10_keepNow_0 9 rfl rfl)
theorem dX10_keepNow_12 : decode cX10_keepNow 12 = .ok (.sipush 330, 3) := dk_17 1 74 (dk_at dksX10_keepNow_0 12 rfl rfl)
theorem dX10_keepNow_15 : decode cX10_keepNow 15 = .ok (.iload_n 1, 1) := dk_27 (dk_at dksX10_keepNow_0 15 rfl rfl)
theorem dX10_keepNow_16 : decode cX10_keepNow 16 = .ok (.iadd, 1) := dk_96 (dk_at dksX10_keepNow_0 16 rfl rfl)
theorem dX10_keepNow_17 : decode cX10_keepNow 17 = .ok (.aload_n 0, 1) := dk_42 (dk_at dksX10_keepNow_0 17 rfl rfl)
theorem dX10_keepNow_18 : decode cX10_keepNow 18 = .ok (.getfield 78, 3) := dk_180 0 78 (dk_at dksX10_keepNow_0 18 rfl rfl)
theorem dX10_keepNow_21 : decode cX10_keepNow 21 = .ok (.iload_n 1, 1) := dk_27 (dk_at dksX10_keepNow_0 21 rfl rfl)
theorem dX10_keepNow_22 : decode cX10_keepNow 22 = .ok (.iaload, 1) := dk_46 (dk_at dksX10_keepNow_0 22 rfl rfl)
theorem dX10_keepNow_23 : decode cX10_keepNow 23 = .ok (.iastore, 1) := dk_79 (dk_at dksX10_keepNow_0 23 rfl rfl)
theorem dX10_keepNow_24 : decode cX10_keepNow 24 = .ok (.iinc 1 1, 3) := dk_132 1 1 (dk_at dksX10_keepNow_1 0 rfl rfl)
theorem dX10_keepNow_27 : decode cX10_keepNow 27 = .ok (.goto (-25), 3) := dk_167 255 231 (dk_at dksX10_keepNow_1 3 rfl rfl)
theorem dX10_keepNow_30 : decode cX10_keepNow 30 = .ok (.aload_n 0, 1) := dk_42 (dk_at dksX10_keepNow_1 6 rfl rfl)
theorem dX10_keepNow_31 : decode cX10_keepNow 31 = .ok (.getfield 13, 3) := dk_180 0 13 (dk_at dksX10_keepNow_1 7 rfl rfl)
theorem dX10_keepNow_34 : decode cX10_keepNow 34 = .ok (.sipush 340, 3) := dk_17 1 84 (dk_at dksX10_keepNow_1 10 rfl rfl)
theorem dX10_keepNow_37 : decode cX10_keepNow 37 = .ok (.aload_n 0, 1) := dk_42 (dk_at dksX10_keepNow_1 13 rfl rfl)
theorem dX10_keepNow_38 : decode cX10_keepNow 38 = .ok (.getfield 354, 3) := dk_180 1 98 (dk_at dksX10_keepNow_1 14 rfl rfl)
theorem dX10_keepNow_41 : decode cX10_keepNow 41 = .ok (.iastore, 1) := dk_79 (dk_at dksX10_keepNow_1 17 rfl rfl)
theorem dX10_keepNow_42 : decode cX10_keepNow 42 = .ok (.return_, 1) := dk_177 (dk_at dksX10_keepNow_1 18 rfl rfl)
theorem dn_X10_keepNow : yX10_keepNow.cls ≠ "java/lang/invoke/MethodHandle" ∧ yX10_keepNow.cls ≠ "java/lang/invoke/VarHandle" ∧ (parseMethodDescriptor yX10_keepNow.desc).map (fun d => d.parameters.length) = some 0 := by decide +kernel
noncomputable def M_X10_keepNow  : TM Unit := TM.bind (TM.loop (S := Int32) (E := Unit) (fun s1 => if 10 ≤ s1 then TM.pure (Sum.inr ()) else TM.bind (tA 43 10 s1) (fun v5 => TM.bind (sA 14 704 (330 + s1) v5) (fun _ => TM.lv (s1 + 1) (fun v6 => TM.pure (Sum.inl v6))))) 0) (fun e4 => TM.bind (tI 45) (fun v7 => TM.bind (sA 14 704 340 v7) (fun _ => TM.pure ())))
set_option maxHeartbeats 4000000 in
theorem ct_X10_keepNow (G : gG) (am : Nat)  : gCtM G am yX10_keepNow cX10_keepNow 2 none 0 0 [.ref am] (M_X10_keepNow) (fun _ : Unit => none) := by
  refine gCtM.of (by decide) (Nat.le_of_ble_eq_true rfl) (fun K hn ms ms' r hG X hK hd ho => ?_)
  subst hG
  have X : gX K cX10_keepNow 2 "BitingDoorsModel" "keepNow" none 0 0 := X
  show V K 2 (mkM am hn ms) 0 [(0, .ref am)] []
  unfold M_X10_keepNow at hd
  refine v_iconst (v := 0) X dX10_keepNow_0 (by decide) ?_
  refine v_istore_n (lv2 := [(1, .int 0), (0, .ref am)]) X dX10_keepNow_1 1 rfl (by decide) rfl ?_
  obtain ⟨e4, m1, hd, hd2⟩ := TM.bind_some hd
  have KX : V K 2 (mkM am hn m1) 30 [(0, .ref am)] [] := by
    clear hd
    have hd := hd2
    refine v_aload_n X dX10_keepNow_30 0 0 rfl rfl ?_
    refine t_getA (j := 1) X rfl fl_X10_13 dX10_keepNow_31 ?_
    refine v_sipush (v := 340) X dX10_keepNow_34 (by decide) ?_
    refine v_aload_n X dX10_keepNow_37 0 0 rfl rfl ?_
    refine t_getI X hd rfl fl_X10_354 dX10_keepNow_38 (fun v7 hd => ?_)
    refine t_iast (j := 1) X hd rfl dX10_keepNow_41 (fun ms hd => ?_)
    exact t_vret X hK hd ho dX10_keepNow_42
  clear hd2
  refine v_loc [1, 0] rfl ?_
  refine Tloop_ind hd (fun (s1 : Int32) m => V K 2 (mkM am hn m) 2 [(0, .ref am), (1, .int s1)] []) (fun s1 ms x m2 hd ih2 ho3 => ?_)
  refine v_iload_n X dX10_keepNow_2 1 1 rfl rfl ?_
  refine v_bipush (v := 10) X dX10_keepNow_3 (by decide) ?_
  refine v_icmp_ge (tgt := 30) X dX10_keepNow_5 (by decide) (fun q => ?_) (fun q => ?_)
  · have hd := Tite_t q hd
    exact v_loc [0] rfl (t_at (P := fun (e4 : Unit) m => V K 2 (mkM am hn m) 30 [(0, .ref am)] []) (Tlp_out hd ho3) KX)
  · have hd := Tite_f q hd
    refine v_aload_n X dX10_keepNow_8 0 0 rfl rfl ?_
    refine t_getA (j := 1) X rfl fl_X10_13 dX10_keepNow_9 ?_
    refine v_sipush (v := 330) X dX10_keepNow_12 (by decide) ?_
    refine v_iload_n X dX10_keepNow_15 1 1 rfl rfl ?_
    refine v_iadd X dX10_keepNow_16 ?_
    refine v_aload_n X dX10_keepNow_17 0 0 rfl rfl ?_
    refine t_getA (j := 22) X rfl fl_X10_78 dX10_keepNow_18 ?_
    refine v_iload_n X dX10_keepNow_21 1 1 rfl rfl ?_
    refine t_iald (j := 22) X hd rfl dX10_keepNow_22 (fun v5 hd => ?_)
    refine t_iast (j := 1) X hd rfl dX10_keepNow_23 (fun ms hd => ?_)
    refine t_iincL (lv2 := fun v6 => [(1, .int v6), (0, .ref am)]) X hd dX10_keepNow_24 1 rfl (by decide : Int32.ofInt 1 = 1) (by decide) (fun v6 => rfl) (fun v6 hd => ?_)
    refine v_goto (tgt := 2) X dX10_keepNow_27 (by decide) ?_
    exact v_loc [1, 0] rfl (Tlp_in (P := fun (s1 : Int32) m => V K 2 (mkM am hn m) 2 [(0, .ref am), (1, .int s1)] []) hd ih2)
def dkwX10_does_2 : List UInt8 := [181, 0, 255, 3, 172]
abbrev dktX10_does_2 : List UInt8 := dkwX10_does_2 ++ []
def dkwX10_does_1 : List UInt8 := [42, 27, 182, 1, 131, 61, 28, 153, 0, 5, 28, 172, 42, 182, 1, 134, 42, 89, 180, 0, 255, 4, 96]
abbrev dktX10_does_1 : List UInt8 := dkwX10_does_1 ++ dktX10_does_2
def dkwX10_does_0 : List UInt8 := [42, 3, 181, 0, 108, 42, 182, 0, 200, 42, 27, 182, 1, 128, 154, 0, 6, 16, 254, 172, 42, 182, 1, 125]
abbrev dktX10_does_0 : List UInt8 := dkwX10_does_0 ++ dktX10_does_1
theorem dksX10_does_0 : cX10_does.data.toList.drop 0 = dktX10_does_0 := by decide +kernel
theorem dksX10_does_1 : cX10_does.data.toList.drop 24 = dktX10_does_1 := dk_seg dksX10_does_0 24 rfl rfl
theorem dksX10_does_2 : cX10_does.data.toList.drop 47 = dktX10_does_2 := dk_seg dksX10_does_1 23 rfl rfl
theorem dX10_does_0 : decode cX10_does 0 = .ok (.aload_n 0, 1) := dk_42 (dk_at dksX10_does_0 0 rfl rfl)
theorem dX10_does_1 : decode cX10_does 1 = .ok (.iconst 0, 1) := dk_3 (dk_at dksX10_does_0 1 rfl rfl)
theorem dX10_does_2 : decode cX10_does 2 = .ok (.putfield 108, 3) := dk_181 0 108 (dk_at dksX10_does_0 2 rfl rfl)
theorem dX10_does_5 : decode cX10_does 5 = .ok (.aload_n 0, 1) := dk_42 (dk_at dksX10_does_0 5 rfl rfl)
theorem dX10_does_6 : decode cX10_does 6 = .ok (.invokevirtual 200, 3) := dk_182 0 200 (dk_at dksX10_does_0 6 rfl rfl)
theorem dX10_does_9 : decode cX10_does 9 = .ok (.aload_n 0, 1) := dk_42 (dk_at dksX10_does_0 9 rfl rfl)
theorem dX10_does_10 : decode cX10_does 10 = .ok (.iload_n 1, 1) := dk_27 (dk_at dksX10_does_0 10 rfl rfl)
theorem dX10_does_11 : decode cX10_does 11 = .ok (.invokevirtual 384, 3) := dk_182 1 128 (dk_at dksX10_does_0 11 rfl rfl)
theorem dX10_does_14 : decode cX10_does 14 = .ok (.ifCond .ne 6, 3) := dk_154 0 6 (dk_at dksX10_does_0 14 rfl rfl)
theorem dX10_does_17 : decode cX10_does 17 = .ok (.bipush (-2), 2) := dk_16 254 (dk_at dksX10_does_0 17 rfl rfl)
theorem dX10_does_19 : decode cX10_does 19 = .ok (.ireturn, 1) := dk_172 (dk_at dksX10_does_0 19 rfl rfl)
theorem dX10_does_20 : decode cX10_does 20 = .ok (.aload_n 0, 1) := dk_42 (dk_at dksX10_does_0 20 rfl rfl)
theorem dX10_does_21 : decode cX10_does 21 = .ok (.invokevirtual 381, 3) := dk_182 1 125 (dk_at dksX10_does_0 21 rfl rfl)
theorem dX10_does_24 : decode cX10_does 24 = .ok (.aload_n 0, 1) := dk_42 (dk_at dksX10_does_1 0 rfl rfl)
theorem dX10_does_25 : decode cX10_does 25 = .ok (.iload_n 1, 1) := dk_27 (dk_at dksX10_does_1 1 rfl rfl)
theorem dX10_does_26 : decode cX10_does 26 = .ok (.invokevirtual 387, 3) := dk_182 1 131 (dk_at dksX10_does_1 2 rfl rfl)
theorem dX10_does_29 : decode cX10_does 29 = .ok (.istore_n 2, 1) := dk_61 (dk_at dksX10_does_1 5 rfl rfl)
theorem dX10_does_30 : decode cX10_does 30 = .ok (.iload_n 2, 1) := dk_28 (dk_at dksX10_does_1 6 rfl rfl)
theorem dX10_does_31 : decode cX10_does 31 = .ok (.ifCond .eq 5, 3) := dk_153 0 5 (dk_at dksX10_does_1 7 rfl rfl)
theorem dX10_does_34 : decode cX10_does 34 = .ok (.iload_n 2, 1) := dk_28 (dk_at dksX10_does_1 10 rfl rfl)
theorem dX10_does_35 : decode cX10_does 35 = .ok (.ireturn, 1) := dk_172 (dk_at dksX10_does_1 11 rfl rfl)
theorem dX10_does_36 : decode cX10_does 36 = .ok (.aload_n 0, 1) := dk_42 (dk_at dksX10_does_1 12 rfl rfl)
theorem dX10_does_37 : decode cX10_does 37 = .ok (.invokevirtual 390, 3) := dk_182 1 134 (dk_at dksX10_does_1 13 rfl rfl)
theorem dX10_does_40 : decode cX10_does 40 = .ok (.aload_n 0, 1) := dk_42 (dk_at dksX10_does_1 16 rfl rfl)
theorem dX10_does_41 : decode cX10_does 41 = .ok (.dup, 1) := dk_89 (dk_at dksX10_does_1 17 rfl rfl)
theorem dX10_does_42 : decode cX10_does 42 = .ok (.getfield 255, 3) := dk_180 0 255 (dk_at dksX10_does_1 18 rfl rfl)
theorem dX10_does_45 : decode cX10_does 45 = .ok (.iconst 1, 1) := dk_4 (dk_at dksX10_does_1 21 rfl rfl)
theorem dX10_does_46 : decode cX10_does 46 = .ok (.iadd, 1) := dk_96 (dk_at dksX10_does_1 22 rfl rfl)
theorem dX10_does_47 : decode cX10_does 47 = .ok (.putfield 255, 3) := dk_181 0 255 (dk_at dksX10_does_2 0 rfl rfl)
theorem dX10_does_50 : decode cX10_does 50 = .ok (.iconst 0, 1) := dk_3 (dk_at dksX10_does_2 3 rfl rfl)
theorem dX10_does_51 : decode cX10_does 51 = .ok (.ireturn, 1) := dk_172 (dk_at dksX10_does_2 4 rfl rfl)
theorem fl_X10_255 : gFl "BitingDoorsModel" 255 [8] 23 := by
  intro args s hts hN ci hc
  simp only [List.mem_cons, List.not_mem_nil, or_false] at hc
  subst hc
  exact ⟨RX10, TX10, 64, "BitingDoorsModel", gCl_X10, in_X10, by decide, Or.inl (hts _ q1673), fun _ h => h⟩
theorem fp_X10_255 {nm : String} : gFp "BitingDoorsModel" nm 255 [8] 23 .int := by
  intro args s hts hN ci hc
  simp only [List.mem_cons, List.not_mem_nil, or_false] at hc
  subst hc
  exact ⟨RX10, TX10, 64, "BitingDoorsModel", gCl_X10, in_X10, by decide, Or.inl ⟨rfl, Or.inl (hts _ q1673)⟩, fun _ h => h, rfl, fun D tys hK => gap_X10 hts hK⟩
theorem dn_X10_does : yX10_does.cls ≠ "java/lang/invoke/MethodHandle" ∧ yX10_does.cls ≠ "java/lang/invoke/VarHandle" ∧ (parseMethodDescriptor yX10_does.desc).map (fun d => d.parameters.length) = some 1 := by decide +kernel
noncomputable def M_X10_does (p1 : Int32) : TM Int32 := TM.bind (sI 0 0) (fun _ => TM.bind (M_X10_lay) (fun v1 => TM.bind (M_X10_isAct p1) (fun v2 => cond v2 (TM.bind (M_X10_takeNow) (fun v3 => TM.bind (M_X10_minute p1) (fun v4 => if v4 = 0 then TM.bind (M_X10_keepNow) (fun v5 => TM.bind (tI 23) (fun v6 => TM.bind (sI 23 (v6 + 1)) (fun _ => TM.pure 0))) else TM.pure v4))) (TM.pure (-2)))))
set_option maxHeartbeats 4000000 in
theorem ct_X10_does (G : gG) (am : Nat) (p1 : Int32) : gCtM G am yX10_does cX10_does 3 (some .int) 6 150 [.ref am, .int p1] (M_X10_does p1) (fun x : Int32 => some (.int x)) := by
  refine gCtM.of (by decide) (Nat.le_of_ble_eq_true rfl) (fun K hn ms ms' r hG X hK hd ho => ?_)
  subst hG
  have X : gX K cX10_does 3 "BitingDoorsModel" "does" (some .int) 6 150 := X
  show V K 3 (mkM am hn ms) 0 [(0, .ref am), (1, .int p1)] []
  unfold M_X10_does at hd
  refine v_aload_n X dX10_does_0 0 0 rfl rfl ?_
  refine v_iconst (v := 0) X dX10_does_1 (by decide) ?_
  refine t_putI X hd rfl fp_X10_108 dX10_does_2 (fun ms hd => ?_)
  refine v_aload_n X dX10_does_5 0 0 rfl rfl ?_
  refine t_callV X hK hd (ct_X10_lay _ am) (lw_V q1868 q1870 qs37 q120 q1871) ⟨rfl, dn_X10_lay⟩ rfl ⟨by decide, by decide⟩ rfl (Nat.le_of_ble_eq_true rfl) dX10_does_6 (fun v1 ms hd => ?_)
  show V K 3 (mkM am hn ms) 9 [(0, .ref am), (1, .int p1)] []
  refine v_aload_n X dX10_does_9 0 0 rfl rfl ?_
  refine v_iload_n X dX10_does_10 1 1 rfl rfl ?_
  refine t_callV X hK hd (ct_X10_isAct _ am p1) (lw_V q2164 q2166 qs80 q120 q2167) ⟨rfl, dn_X10_isAct⟩ rfl ⟨by decide, by decide⟩ rfl (Nat.le_of_ble_eq_true rfl) dX10_does_11 (fun v2 ms hd => ?_)
  show V K 3 (mkM am hn ms) 14 [(0, .ref am), (1, .int p1)] [.int (b2i v2)]
  refine v_ifZ_ne (tgt := 20) X dX10_does_14 (by decide) (fun q => ?_) (fun q => ?_)
  · have hd := Tcnd_t q hd
    refine v_aload_n X dX10_does_20 0 0 rfl rfl ?_
    refine t_callV X hK hd (ct_X10_takeNow _ am) (lw_V q2144 q2146 qs77 q120 q2147) ⟨rfl, dn_X10_takeNow⟩ rfl ⟨by decide, by decide⟩ rfl (Nat.le_of_ble_eq_true rfl) dX10_does_21 (fun v3 ms hd => ?_)
    show V K 3 (mkM am hn ms) 24 [(0, .ref am), (1, .int p1)] []
    refine v_aload_n X dX10_does_24 0 0 rfl rfl ?_
    refine v_iload_n X dX10_does_25 1 1 rfl rfl ?_
    refine t_callV X hK hd (ct_X10_minute _ am p1) (lw_V q2168 q2170 qs81 q120 q2171) ⟨rfl, dn_X10_minute⟩ rfl ⟨by decide, by decide⟩ rfl (Nat.le_of_ble_eq_true rfl) dX10_does_26 (fun v4 ms hd => ?_)
    show V K 3 (mkM am hn ms) 29 [(0, .ref am), (1, .int p1)] [.int v4]
    refine v_istore_n (lv2 := [(2, .int v4), (0, .ref am), (1, .int p1)]) X dX10_does_29 2 rfl (by decide) rfl ?_
    refine v_iload_n X dX10_does_30 0 2 rfl rfl ?_
    refine v_if_eq (tgt := 36) X dX10_does_31 (by decide) (fun q => ?_) (fun q => ?_)
    · have hd := Tite_t q hd
      refine v_aload_n X dX10_does_36 1 0 rfl rfl ?_
      refine t_callV X hK hd (ct_X10_keepNow _ am) (lw_V q2192 q2194 qs87 q120 q2195) ⟨rfl, dn_X10_keepNow⟩ rfl ⟨by decide, by decide⟩ rfl (Nat.le_of_ble_eq_true rfl) dX10_does_37 (fun v5 ms hd => ?_)
      show V K 3 (mkM am hn ms) 40 [(2, .int v4), (0, .ref am), (1, .int p1)] []
      refine v_aload_n X dX10_does_40 1 0 rfl rfl ?_
      refine v_dup X dX10_does_41 rfl ?_
      refine t_getI X hd rfl fl_X10_255 dX10_does_42 (fun v6 hd => ?_)
      refine v_iconst (v := 1) X dX10_does_45 (by decide) ?_
      refine v_iadd X dX10_does_46 ?_
      refine t_putI X hd rfl fp_X10_255 dX10_does_47 (fun ms hd => ?_)
      refine v_iconst (v := 0) X dX10_does_50 (by decide) ?_
      exact t_iret X hK hd ho dX10_does_51
    · have hd := Tite_f q hd
      refine v_iload_n X dX10_does_34 0 2 rfl rfl ?_
      exact t_iret X hK hd ho dX10_does_35
  · have hd := Tcnd_f q hd
    refine v_bipush (v := (-2)) X dX10_does_17 (by decide) ?_
    exact t_iret X hK hd ho dX10_does_19
def dkwX10_image_3 : List UInt8 := [42, 180, 0, 25, 28, 47, 80, 132, 2, 1, 167, 255, 230, 42, 180, 0, 35, 27, 4, 84, 4, 172]
abbrev dktX10_image_3 : List UInt8 := dkwX10_image_3 ++ []
def dkwX10_image_2 : List UInt8 := [132, 2, 1, 167, 255, 228, 3, 61, 28, 16, 10, 162, 0, 26, 42, 180, 0, 32, 16, 10, 27, 104, 28, 96]
abbrev dktX10_image_2 : List UInt8 := dkwX10_image_2 ++ dktX10_image_3
def dkwX10_image_1 : List UInt8 := [17, 2, 192, 162, 0, 27, 42, 180, 0, 22, 17, 2, 192, 27, 104, 28, 96, 42, 180, 0, 13, 28, 46, 79]
abbrev dktX10_image_1 : List UInt8 := dkwX10_image_1 ++ dktX10_image_2
def dkwX10_image_0 : List UInt8 := [42, 3, 181, 0, 108, 42, 182, 0, 200, 27, 3, 4, 184, 0, 187, 154, 0, 5, 3, 172, 3, 61, 28]
abbrev dktX10_image_0 : List UInt8 := dkwX10_image_0 ++ dktX10_image_1
theorem dksX10_image_0 : cX10_image.data.toList.drop 0 = dktX10_image_0 := by decide +kernel
theorem dksX10_image_1 : cX10_image.data.toList.drop 23 = dktX10_image_1 := dk_seg dksX10_image_0 23 rfl rfl
theorem dksX10_image_2 : cX10_image.data.toList.drop 47 = dktX10_image_2 := dk_seg dksX10_image_1 24 rfl rfl
theorem dksX10_image_3 : cX10_image.data.toList.drop 71 = dktX10_image_3 := dk_seg dksX10_image_2 24 rfl rfl
theorem dX10_image_0 : decode cX10_image 0 = .ok (.aload_n 0, 1) := dk_42 (dk_at dksX10_image_0 0 rfl rfl)
theorem dX10_image_1 : decode cX10_image 1 = .ok (.iconst 0, 1) := dk_3 (dk_at dksX10_image_0 1 rfl rfl)
theorem dX10_image_2 : decode cX10_image 2 = .ok (.putfield 108, 3) := dk_181 0 108 (dk_at dksX10_image_0 2 rfl rfl)
theorem dX10_image_5 : decode cX10_image 5 = .ok (.aload_n 0, 1) := dk_42 (dk_at dksX10_image_0 5 rfl rfl)
theorem dX10_image_6 : decode cX10_image 6 = .ok (.invokevirtual 200, 3) := dk_182 0 200 (dk_at dksX10_image_0 6 rfl rfl)
theorem dX10_image_9 : decode cX10_image 9 = .ok (.iload_n 1, 1) := dk_27 (dk_at dksX10_image_0 9 rfl rfl)
theorem dX10_image_10 : decode cX10_image 10 = .ok (.iconst 0, 1) := dk_3 (dk_at dksX10_image_0 10 rfl rfl)
theorem dX10_image_11 : decode cX10_image 11 = .ok (.iconst 1, 1) := dk_4 (dk_at dksX10_image_0 11 rfl rfl)
theorem dX10_image_12 : decode cX10_image 12 = .ok (.invokestatic 187, 3) := dk_184 0 187 (dk_at dksX10_image_0 12 rfl rfl)
theorem dX10_image_15 : decode cX10_image 15 = .ok (.ifCond .ne 5, 3) := dk_154 0 5 (dk_at dksX10_image_0 15 rfl rfl)
theorem dX10_image_18 : decode cX10_image 18 = .ok (.iconst 0, 1) := dk_3 (dk_at dksX10_image_0 18 rfl rfl)
theorem dX10_image_19 : decode cX10_image 19 = .ok (.ireturn, 1) := dk_172 (dk_at dksX10_image_0 19 rfl rfl)
theorem dX10_image_20 : decode cX10_image 20 = .ok (.iconst 0, 1) := dk_3 (dk_at dksX10_image_0 20 rfl rfl)
theorem dX10_image_21 : decode cX10_image 21 = .ok (.istore_n 2, 1) := dk_61 (dk_at dksX10_image_0 21 rfl rfl)
theorem dX10_image_22 : decode cX10_image 22 = .ok (.iload_n 2, 1) := dk_28 (dk_at dksX10_image_0 22 rfl rfl)
theorem dX10_image_23 : decode cX10_image 23 = .ok (.sipush 704, 3) := dk_17 2 192 (dk_at dksX10_image_1 0 rfl rfl)
theorem dX10_image_26 : decode cX10_image 26 = .ok (.if_icmp .ge 27, 3) := dk_162 0 27 (dk_at dksX10_image_1 3 rfl rfl)
theorem dX10_image_29 : decode cX10_image 29 = .ok (.aload_n 0, 1) := dk_42 (dk_at dksX10_image_1 6 rfl rfl)
theorem dX10_image_30 : decode cX10_image 30 = .ok (.getfield 22, 3) := dk_180 0 22 (dk_at dksX10_image_1 7 rfl rfl)
theorem dX10_image_33 : decode cX10_image 33 = .ok (.sipush 704, 3) := dk_17 2 192 (dk_at dksX10_image_1 10 rfl rfl)
theorem dX10_image_36 : decode cX10_image 36 = .ok (.iload_n 1, 1) := dk_27 (dk_at dksX10_image_1 13 rfl rfl)
theorem dX10_image_37 : decode cX10_image 37 = .ok (.imul, 1) := dk_104 (dk_at dksX10_image_1 14 rfl rfl)
theorem dX10_image_38 : decode cX10_image 38 = .ok (.iload_n 2, 1) := dk_28 (dk_at dksX10_image_1 15 rfl rfl)
theorem dX10_image_39 : decode cX10_image 39 = .ok (.iadd, 1) := dk_96 (dk_at dksX10_image_1 16 rfl rfl)
theorem dX10_image_40 : decode cX10_image 40 = .ok (.aload_n 0, 1) := dk_42 (dk_at dksX10_image_1 17 rfl rfl)
theorem dX10_image_41 : decode cX10_image 41 = .ok (.getfield 13, 3) := dk_180 0 13 (dk_at dksX10_image_1 18 rfl rfl)
theorem dX10_image_44 : decode cX10_image 44 = .ok (.iload_n 2, 1) := dk_28 (dk_at dksX10_image_1 21 rfl rfl)
theorem dX10_image_45 : decode cX10_image 45 = .ok (.iaload, 1) := dk_46 (dk_at dksX10_image_1 22 rfl rfl)
theorem dX10_image_46 : decode cX10_image 46 = .ok (.iastore, 1) := dk_79 (dk_at dksX10_image_1 23 rfl rfl)
theorem dX10_image_47 : decode cX10_image 47 = .ok (.iinc 2 1, 3) := dk_132 2 1 (dk_at dksX10_image_2 0 rfl rfl)
theorem dX10_image_50 : decode cX10_image 50 = .ok (.goto (-28), 3) := dk_167 255 228 (dk_at dksX10_image_2 3 rfl rfl)
theorem dX10_image_53 : decode cX10_image 53 = .ok (.iconst 0, 1) := dk_3 (dk_at dksX10_image_2 6 rfl rfl)
theorem dX10_image_54 : decode cX10_image 54 = .ok (.istore_n 2, 1) := dk_61 (dk_at dksX10_image_2 7 rfl rfl)
theorem dX10_image_55 : decode cX10_image 55 = .ok (.iload_n 2, 1) := dk_28 (dk_at dksX10_image_2 8 rfl rfl)
theorem dX10_image_56 : decode cX10_image 56 = .ok (.bipush 10, 2) := dk_16 10 (dk_at dksX10_image_2 9 rfl rfl)
theorem dX10_image_58 : decode cX10_image 58 = .ok (.if_icmp .ge 26, 3) := dk_162 0 26 (dk_at dksX10_image_2 11 rfl rfl)
theorem dX10_image_61 : decode cX10_image 61 = .ok (.aload_n 0, 1) := dk_42 (dk_at dksX10_image_2 14 rfl rfl)
theorem dX10_image_62 : decode cX10_image 62 = .ok (.getfield 32, 3) := dk_180 0 32 (dk_at dksX10_image_2 15 rfl rfl)
theorem dX10_image_65 : decode cX10_image 65 = .ok (.bipush 10, 2) := dk_16 10 (dk_at dksX10_image_2 18 rfl rfl)
theorem dX10_image_67 : decode cX10_image 67 = .ok (.iload_n 1, 1) := dk_27 (dk_at dksX10_image_2 20 rfl rfl)
theorem dX10_image_68 : decode cX10_image 68 = .ok (.imul, 1) := dk_104 (dk_at dksX10_image_2 21 rfl rfl)
theorem dX10_image_69 : decode cX10_image 69 = .ok (.iload_n 2, 1) := dk_28 (dk_at dksX10_image_2 22 rfl rfl)
theorem dX10_image_70 : decode cX10_image 70 = .ok (.iadd, 1) := dk_96 (dk_at dksX10_image_2 23 rfl rfl)
theorem dX10_image_71 : decode cX10_image 71 = .ok (.aload_n 0, 1) := dk_42 (dk_at dksX10_image_3 0 rfl rfl)
theorem dX10_image_72 : decode cX10_image 72 = .ok (.getfield 25, 3) := dk_180 0 25 (dk_at dksX10_image_3 1 rfl rfl)
theorem dX10_image_75 : decode cX10_image 75 = .ok (.iload_n 2, 1) := dk_28 (dk_at dksX10_image_3 4 rfl rfl)
theorem dX10_image_76 : decode cX10_image 76 = .ok (.laload, 1) := dk_47 (dk_at dksX10_image_3 5 rfl rfl)
theorem dX10_image_77 : decode cX10_image 77 = .ok (.lastore, 1) := dk_80 (dk_at dksX10_image_3 6 rfl rfl)
theorem dX10_image_78 : decode cX10_image 78 = .ok (.iinc 2 1, 3) := dk_132 2 1 (dk_at dksX10_image_3 7 rfl rfl)
theorem dX10_image_81 : decode cX10_image 81 = .ok (.goto (-26), 3) := dk_167 255 230 (dk_at dksX10_image_3 10 rfl rfl)
theorem dX10_image_84 : decode cX10_image 84 = .ok (.aload_n 0, 1) := dk_42 (dk_at dksX10_image_3 13 rfl rfl)
theorem dX10_image_85 : decode cX10_image 85 = .ok (.getfield 35, 3) := dk_180 0 35 (dk_at dksX10_image_3 14 rfl rfl)
theorem dX10_image_88 : decode cX10_image 88 = .ok (.iload_n 1, 1) := dk_27 (dk_at dksX10_image_3 17 rfl rfl)
theorem dX10_image_89 : decode cX10_image 89 = .ok (.iconst 1, 1) := dk_4 (dk_at dksX10_image_3 18 rfl rfl)
theorem dX10_image_90 : decode cX10_image 90 = .ok (.bastore, 1) := dk_84 (dk_at dksX10_image_3 19 rfl rfl)
theorem dX10_image_91 : decode cX10_image 91 = .ok (.iconst 1, 1) := dk_4 (dk_at dksX10_image_3 20 rfl rfl)
theorem dX10_image_92 : decode cX10_image 92 = .ok (.ireturn, 1) := dk_172 (dk_at dksX10_image_3 21 rfl rfl)
theorem fl_X10_22 : gFl "BitingDoorsModel" 22 [8] 17 := by
  intro args s hts hN ci hc
  simp only [List.mem_cons, List.not_mem_nil, or_false] at hc
  subst hc
  exact ⟨RX10, TX10, 64, "BitingDoorsModel", gCl_X10, in_X10, by decide, Or.inl (hts _ q1667), fun _ h => h⟩
theorem fl_X10_32 : gFl "BitingDoorsModel" 32 [8] 20 := by
  intro args s hts hN ci hc
  simp only [List.mem_cons, List.not_mem_nil, or_false] at hc
  subst hc
  exact ⟨RX10, TX10, 64, "BitingDoorsModel", gCl_X10, in_X10, by decide, Or.inl (hts _ q1670), fun _ h => h⟩
theorem fl_X10_35 : gFl "BitingDoorsModel" 35 [8] 21 := by
  intro args s hts hN ci hc
  simp only [List.mem_cons, List.not_mem_nil, or_false] at hc
  subst hc
  exact ⟨RX10, TX10, 64, "BitingDoorsModel", gCl_X10, in_X10, by decide, Or.inl (hts _ q1671), fun _ h => h⟩
theorem dn_X10_image : yX10_image.cls ≠ "java/lang/invoke/MethodHandle" ∧ yX10_image.cls ≠ "java/lang/invoke/VarHandle" ∧ (parseMethodDescriptor yX10_image.desc).map (fun d => d.parameters.length) = some 1 := by decide +kernel
noncomputable def M_X10_image (p1 : Int32) : TM Bool := TM.bind (sI 0 0) (fun _ => TM.bind (M_X10_lay) (fun v1 => TM.bind (M_X10_isIn p1 0 1) (fun v2 => cond v2 (TM.bind (TM.loop (S := Int32) (E := Unit) (fun s3 => if 704 ≤ s3 then TM.pure (Sum.inr ()) else TM.bind (tA 14 704 s3) (fun v7 => TM.bind (sA 17 1408 ((704 * p1) + s3) v7) (fun _ => TM.lv (s3 + 1) (fun v8 => TM.pure (Sum.inl v8))))) 0) (fun e6 => TM.bind (TM.loop (S := Int32) (E := Unit) (fun s9 => if 10 ≤ s9 then TM.pure (Sum.inr ()) else TM.bind (tB 18 10 s9) (fun v13 => TM.bind (sB 20 20 ((10 * p1) + s9) v13) (fun _ => TM.lv (s9 + 1) (fun v14 => TM.pure (Sum.inl v14))))) 0) (fun e12 => TM.bind (sA 21 2 p1 1) (fun _ => TM.pure true)))) (TM.pure false))))
set_option maxHeartbeats 4000000 in
theorem ct_X10_image (G : gG) (am : Nat) (p1 : Int32) : gCtM G am yX10_image cX10_image 3 (some .boolean) 1 22 [.ref am, .int p1] (M_X10_image p1) (fun x : Bool => some (.int (b2i x))) := by
  refine gCtM.of (by decide) (Nat.le_of_ble_eq_true rfl) (fun K hn ms ms' r hG X hK hd ho => ?_)
  subst hG
  have X : gX K cX10_image 3 "BitingDoorsModel" "image" (some .boolean) 1 22 := X
  show V K 3 (mkM am hn ms) 0 [(0, .ref am), (1, .int p1)] []
  unfold M_X10_image at hd
  refine v_aload_n X dX10_image_0 0 0 rfl rfl ?_
  refine v_iconst (v := 0) X dX10_image_1 (by decide) ?_
  refine t_putI X hd rfl fp_X10_108 dX10_image_2 (fun ms hd => ?_)
  refine v_aload_n X dX10_image_5 0 0 rfl rfl ?_
  refine t_callV X hK hd (ct_X10_lay _ am) (lw_V q1868 q1870 qs37 q120 q1871) ⟨rfl, dn_X10_lay⟩ rfl ⟨by decide, by decide⟩ rfl (Nat.le_of_ble_eq_true rfl) dX10_image_6 (fun v1 ms hd => ?_)
  show V K 3 (mkM am hn ms) 9 [(0, .ref am), (1, .int p1)] []
  refine v_iload_n X dX10_image_9 1 1 rfl rfl ?_
  refine v_iconst (v := 0) X dX10_image_10 (by decide) ?_
  refine v_iconst (v := 1) X dX10_image_11 (by decide) ?_
  refine t_callS X hK hd (ct_X10_isIn _ am p1 0 1) (lw_S q1940 q1941 q120 q1942) dn_X10_isIn rfl ⟨by decide, by decide⟩ rfl (Nat.le_of_ble_eq_true rfl) dX10_image_12 (fun v2 ms hd => ?_)
  show V K 3 (mkM am hn ms) 15 [(0, .ref am), (1, .int p1)] [.int (b2i v2)]
  refine v_ifZ_ne (tgt := 20) X dX10_image_15 (by decide) (fun q => ?_) (fun q => ?_)
  · have hd := Tcnd_t q hd
    refine v_iconst (v := 0) X dX10_image_20 (by decide) ?_
    refine v_istore_n (lv2 := [(2, .int 0), (0, .ref am), (1, .int p1)]) X dX10_image_21 2 rfl (by decide) rfl ?_
    obtain ⟨e6, m1, hd, hd2⟩ := TM.bind_some hd
    have KX : V K 3 (mkM am hn m1) 53 [(0, .ref am), (1, .int p1)] [] := by
      clear hd
      have hd := hd2
      refine v_iconst (v := 0) X dX10_image_53 (by decide) ?_
      refine v_istore_n (lv2 := [(2, .int 0), (0, .ref am), (1, .int p1)]) X dX10_image_54 2 rfl (by decide) rfl ?_
      obtain ⟨e12, m1, hd, hd2⟩ := TM.bind_some hd
      have KX : V K 3 (mkM am hn m1) 84 [(0, .ref am), (1, .int p1)] [] := by
        clear hd
        have hd := hd2
        refine v_aload_n X dX10_image_84 0 0 rfl rfl ?_
        refine t_getA (j := 8) X rfl fl_X10_35 dX10_image_85 ?_
        refine v_iload_n X dX10_image_88 1 1 rfl rfl ?_
        refine v_iconst (v := 1) X dX10_image_89 (by decide) ?_
        refine t_zast (j := 8) X hd rfl rfl dX10_image_90 (fun ms hd => ?_)
        refine v_iconst (v := 1) X dX10_image_91 (by decide) ?_
        exact t_zret X hK hd rfl ho dX10_image_92
      clear hd2
      refine v_loc [1, 2, 0] rfl ?_
      refine Tloop_ind hd (fun (s9 : Int32) m => V K 3 (mkM am hn m) 55 [(0, .ref am), (1, .int p1), (2, .int s9)] []) (fun s9 ms x m2 hd ih10 ho11 => ?_)
      refine v_iload_n X dX10_image_55 2 2 rfl rfl ?_
      refine v_bipush (v := 10) X dX10_image_56 (by decide) ?_
      refine v_icmp_ge (tgt := 84) X dX10_image_58 (by decide) (fun q => ?_) (fun q => ?_)
      · have hd := Tite_t q hd
        exact v_loc [0, 1] rfl (t_at (P := fun (e12 : Unit) m => V K 3 (mkM am hn m) 84 [(0, .ref am), (1, .int p1)] []) (Tlp_out hd ho11) KX)
      · have hd := Tite_f q hd
        refine v_aload_n X dX10_image_61 0 0 rfl rfl ?_
        refine t_getA (j := 7) X rfl fl_X10_32 dX10_image_62 ?_
        refine v_bipush (v := 10) X dX10_image_65 (by decide) ?_
        refine v_iload_n X dX10_image_67 1 1 rfl rfl ?_
        refine v_imul X dX10_image_68 ?_
        refine v_iload_n X dX10_image_69 2 2 rfl rfl ?_
        refine v_iadd X dX10_image_70 ?_
        refine v_aload_n X dX10_image_71 0 0 rfl rfl ?_
        refine t_getA (j := 5) X rfl fl_X10_25 dX10_image_72 ?_
        refine v_iload_n X dX10_image_75 2 2 rfl rfl ?_
        refine t_lald (j := 5) X hd rfl dX10_image_76 (fun v13 hd => ?_)
        refine t_last (j := 7) X hd rfl dX10_image_77 (fun ms hd => ?_)
        refine t_iincL (lv2 := fun v14 => [(2, .int v14), (0, .ref am), (1, .int p1)]) X hd dX10_image_78 2 rfl (by decide : Int32.ofInt 1 = 1) (by decide) (fun v14 => rfl) (fun v14 hd => ?_)
        refine v_goto (tgt := 55) X dX10_image_81 (by decide) ?_
        exact v_loc [1, 2, 0] rfl (Tlp_in (P := fun (s9 : Int32) m => V K 3 (mkM am hn m) 55 [(0, .ref am), (1, .int p1), (2, .int s9)] []) hd ih10)
    clear hd2
    refine v_loc [1, 2, 0] rfl ?_
    refine Tloop_ind hd (fun (s3 : Int32) m => V K 3 (mkM am hn m) 22 [(0, .ref am), (1, .int p1), (2, .int s3)] []) (fun s3 ms x m2 hd ih4 ho5 => ?_)
    refine v_iload_n X dX10_image_22 2 2 rfl rfl ?_
    refine v_sipush (v := 704) X dX10_image_23 (by decide) ?_
    refine v_icmp_ge (tgt := 53) X dX10_image_26 (by decide) (fun q => ?_) (fun q => ?_)
    · have hd := Tite_t q hd
      exact v_loc [0, 1] rfl (t_at (P := fun (e6 : Unit) m => V K 3 (mkM am hn m) 53 [(0, .ref am), (1, .int p1)] []) (Tlp_out hd ho5) KX)
    · have hd := Tite_f q hd
      refine v_aload_n X dX10_image_29 0 0 rfl rfl ?_
      refine t_getA (j := 4) X rfl fl_X10_22 dX10_image_30 ?_
      refine v_sipush (v := 704) X dX10_image_33 (by decide) ?_
      refine v_iload_n X dX10_image_36 1 1 rfl rfl ?_
      refine v_imul X dX10_image_37 ?_
      refine v_iload_n X dX10_image_38 2 2 rfl rfl ?_
      refine v_iadd X dX10_image_39 ?_
      refine v_aload_n X dX10_image_40 0 0 rfl rfl ?_
      refine t_getA (j := 1) X rfl fl_X10_13 dX10_image_41 ?_
      refine v_iload_n X dX10_image_44 2 2 rfl rfl ?_
      refine t_iald (j := 1) X hd rfl dX10_image_45 (fun v7 hd => ?_)
      refine t_iast (j := 4) X hd rfl dX10_image_46 (fun ms hd => ?_)
      refine t_iincL (lv2 := fun v8 => [(2, .int v8), (0, .ref am), (1, .int p1)]) X hd dX10_image_47 2 rfl (by decide : Int32.ofInt 1 = 1) (by decide) (fun v8 => rfl) (fun v8 hd => ?_)
      refine v_goto (tgt := 22) X dX10_image_50 (by decide) ?_
      exact v_loc [1, 2, 0] rfl (Tlp_in (P := fun (s3 : Int32) m => V K 3 (mkM am hn m) 22 [(0, .ref am), (1, .int p1), (2, .int s3)] []) hd ih4)
  · have hd := Tcnd_f q hd
    refine v_iconst (v := 0) X dX10_image_18 (by decide) ?_
    exact t_zret X hK hd rfl ho dX10_image_19
def dkwX10_shared_2 : List UInt8 := [127, 184, 1, 32, 96, 172]
abbrev dktX10_shared_2 : List UInt8 := dkwX10_shared_2 ++ []
def dkwX10_shared_1 : List UInt8 := [184, 1, 32, 42, 180, 0, 48, 7, 27, 104, 28, 96, 47, 42, 180, 0, 48, 7, 29, 104, 21, 4, 96, 47]
abbrev dktX10_shared_1 : List UInt8 := dkwX10_shared_1 ++ dktX10_shared_2
def dkwX10_shared_0 : List UInt8 := [42, 180, 0, 45, 7, 27, 104, 28, 96, 47, 42, 180, 0, 45, 7, 29, 104, 21, 4, 96, 47, 127]
abbrev dktX10_shared_0 : List UInt8 := dkwX10_shared_0 ++ dktX10_shared_1
theorem dksX10_shared_0 : cX10_shared.data.toList.drop 0 = dktX10_shared_0 := by decide +kernel
theorem dksX10_shared_1 : cX10_shared.data.toList.drop 22 = dktX10_shared_1 := dk_seg dksX10_shared_0 22 rfl rfl
theorem dksX10_shared_2 : cX10_shared.data.toList.drop 46 = dktX10_shared_2 := dk_seg dksX10_shared_1 24 rfl rfl
theorem dX10_shared_0 : decode cX10_shared 0 = .ok (.aload_n 0, 1) := dk_42 (dk_at dksX10_shared_0 0 rfl rfl)
theorem dX10_shared_1 : decode cX10_shared 1 = .ok (.getfield 45, 3) := dk_180 0 45 (dk_at dksX10_shared_0 1 rfl rfl)
theorem dX10_shared_4 : decode cX10_shared 4 = .ok (.iconst 4, 1) := dk_7 (dk_at dksX10_shared_0 4 rfl rfl)
theorem dX10_shared_5 : decode cX10_shared 5 = .ok (.iload_n 1, 1) := dk_27 (dk_at dksX10_shared_0 5 rfl rfl)
theorem dX10_shared_6 : decode cX10_shared 6 = .ok (.imul, 1) := dk_104 (dk_at dksX10_shared_0 6 rfl rfl)
theorem dX10_shared_7 : decode cX10_shared 7 = .ok (.iload_n 2, 1) := dk_28 (dk_at dksX10_shared_0 7 rfl rfl)
theorem dX10_shared_8 : decode cX10_shared 8 = .ok (.iadd, 1) := dk_96 (dk_at dksX10_shared_0 8 rfl rfl)
theorem dX10_shared_9 : decode cX10_shared 9 = .ok (.laload, 1) := dk_47 (dk_at dksX10_shared_0 9 rfl rfl)
theorem dX10_shared_10 : decode cX10_shared 10 = .ok (.aload_n 0, 1) := dk_42 (dk_at dksX10_shared_0 10 rfl rfl)
theorem dX10_shared_11 : decode cX10_shared 11 = .ok (.getfield 45, 3) := dk_180 0 45 (dk_at dksX10_shared_0 11 rfl rfl)
theorem dX10_shared_14 : decode cX10_shared 14 = .ok (.iconst 4, 1) := dk_7 (dk_at dksX10_shared_0 14 rfl rfl)
theorem dX10_shared_15 : decode cX10_shared 15 = .ok (.iload_n 3, 1) := dk_29 (dk_at dksX10_shared_0 15 rfl rfl)
theorem dX10_shared_16 : decode cX10_shared 16 = .ok (.imul, 1) := dk_104 (dk_at dksX10_shared_0 16 rfl rfl)
theorem dX10_shared_17 : decode cX10_shared 17 = .ok (.iload 4, 2) := dk_21 4 (dk_at dksX10_shared_0 17 rfl rfl)
theorem dX10_shared_19 : decode cX10_shared 19 = .ok (.iadd, 1) := dk_96 (dk_at dksX10_shared_0 19 rfl rfl)
theorem dX10_shared_20 : decode cX10_shared 20 = .ok (.laload, 1) := dk_47 (dk_at dksX10_shared_0 20 rfl rfl)
theorem dX10_shared_21 : decode cX10_shared 21 = .ok (.land, 1) := dk_127 (dk_at dksX10_shared_0 21 rfl rfl)
theorem dX10_shared_22 : decode cX10_shared 22 = .ok (.invokestatic 288, 3) := dk_184 1 32 (dk_at dksX10_shared_1 0 rfl rfl)
theorem dX10_shared_25 : decode cX10_shared 25 = .ok (.aload_n 0, 1) := dk_42 (dk_at dksX10_shared_1 3 rfl rfl)
theorem dX10_shared_26 : decode cX10_shared 26 = .ok (.getfield 48, 3) := dk_180 0 48 (dk_at dksX10_shared_1 4 rfl rfl)
theorem dX10_shared_29 : decode cX10_shared 29 = .ok (.iconst 4, 1) := dk_7 (dk_at dksX10_shared_1 7 rfl rfl)
theorem dX10_shared_30 : decode cX10_shared 30 = .ok (.iload_n 1, 1) := dk_27 (dk_at dksX10_shared_1 8 rfl rfl)
theorem dX10_shared_31 : decode cX10_shared 31 = .ok (.imul, 1) := dk_104 (dk_at dksX10_shared_1 9 rfl rfl)
theorem dX10_shared_32 : decode cX10_shared 32 = .ok (.iload_n 2, 1) := dk_28 (dk_at dksX10_shared_1 10 rfl rfl)
theorem dX10_shared_33 : decode cX10_shared 33 = .ok (.iadd, 1) := dk_96 (dk_at dksX10_shared_1 11 rfl rfl)
theorem dX10_shared_34 : decode cX10_shared 34 = .ok (.laload, 1) := dk_47 (dk_at dksX10_shared_1 12 rfl rfl)
theorem dX10_shared_35 : decode cX10_shared 35 = .ok (.aload_n 0, 1) := dk_42 (dk_at dksX10_shared_1 13 rfl rfl)
theorem dX10_shared_36 : decode cX10_shared 36 = .ok (.getfield 48, 3) := dk_180 0 48 (dk_at dksX10_shared_1 14 rfl rfl)
theorem dX10_shared_39 : decode cX10_shared 39 = .ok (.iconst 4, 1) := dk_7 (dk_at dksX10_shared_1 17 rfl rfl)
theorem dX10_shared_40 : decode cX10_shared 40 = .ok (.iload_n 3, 1) := dk_29 (dk_at dksX10_shared_1 18 rfl rfl)
theorem dX10_shared_41 : decode cX10_shared 41 = .ok (.imul, 1) := dk_104 (dk_at dksX10_shared_1 19 rfl rfl)
theorem dX10_shared_42 : decode cX10_shared 42 = .ok (.iload 4, 2) := dk_21 4 (dk_at dksX10_shared_1 20 rfl rfl)
theorem dX10_shared_44 : decode cX10_shared 44 = .ok (.iadd, 1) := dk_96 (dk_at dksX10_shared_1 22 rfl rfl)
theorem dX10_shared_45 : decode cX10_shared 45 = .ok (.laload, 1) := dk_47 (dk_at dksX10_shared_1 23 rfl rfl)
theorem dX10_shared_46 : decode cX10_shared 46 = .ok (.land, 1) := dk_127 (dk_at dksX10_shared_2 0 rfl rfl)
theorem dX10_shared_47 : decode cX10_shared 47 = .ok (.invokestatic 288, 3) := dk_184 1 32 (dk_at dksX10_shared_2 1 rfl rfl)
theorem dX10_shared_50 : decode cX10_shared 50 = .ok (.iadd, 1) := dk_96 (dk_at dksX10_shared_2 4 rfl rfl)
theorem dX10_shared_51 : decode cX10_shared 51 = .ok (.ireturn, 1) := dk_172 (dk_at dksX10_shared_2 5 rfl rfl)
theorem dn_X10_shared : yX10_shared.cls ≠ "java/lang/invoke/MethodHandle" ∧ yX10_shared.cls ≠ "java/lang/invoke/VarHandle" ∧ (parseMethodDescriptor yX10_shared.desc).map (fun d => d.parameters.length) = some 4 := by decide +kernel
noncomputable def M_X10_shared (p1 : Int32) (p2 : Int32) (p3 : Int32) (p4 : Int32) : TM Int32 := TM.bind (tB 27 40 ((4 * p1) + p2)) (fun v1 => TM.bind (tB 27 40 ((4 * p3) + p4)) (fun v2 => TM.bind (M_X10_ones (v1 &&& v2)) (fun v3 => TM.bind (tB 28 40 ((4 * p1) + p2)) (fun v4 => TM.bind (tB 28 40 ((4 * p3) + p4)) (fun v5 => TM.bind (M_X10_ones (v4 &&& v5)) (fun v6 => TM.pure (v3 + v6)))))))
set_option maxHeartbeats 4000000 in
theorem ct_X10_shared (G : gG) (am : Nat) (p1 : Int32) (p2 : Int32) (p3 : Int32) (p4 : Int32) : gCtM G am yX10_shared cX10_shared 5 (some .int) 1 24 [.ref am, .int p1, .int p2, .int p3, .int p4] (M_X10_shared p1 p2 p3 p4) (fun x : Int32 => some (.int x)) := by
  refine gCtM.of (by decide) (Nat.le_of_ble_eq_true rfl) (fun K hn ms ms' r hG X hK hd ho => ?_)
  subst hG
  have X : gX K cX10_shared 5 "BitingDoorsModel" "shared" (some .int) 1 24 := X
  show V K 5 (mkM am hn ms) 0 [(0, .ref am), (1, .int p1), (2, .int p2), (3, .int p3), (4, .int p4)] []
  unfold M_X10_shared at hd
  refine v_aload_n X dX10_shared_0 0 0 rfl rfl ?_
  refine t_getA (j := 11) X rfl fl_X10_45 dX10_shared_1 ?_
  refine v_iconst (v := 4) X dX10_shared_4 (by decide) ?_
  refine v_iload_n X dX10_shared_5 1 1 rfl rfl ?_
  refine v_imul X dX10_shared_6 ?_
  refine v_iload_n X dX10_shared_7 2 2 rfl rfl ?_
  refine v_iadd X dX10_shared_8 ?_
  refine t_lald (j := 11) X hd rfl dX10_shared_9 (fun v1 hd => ?_)
  refine v_aload_n X dX10_shared_10 0 0 rfl rfl ?_
  refine t_getA (j := 11) X rfl fl_X10_45 dX10_shared_11 ?_
  refine v_iconst (v := 4) X dX10_shared_14 (by decide) ?_
  refine v_iload_n X dX10_shared_15 3 3 rfl rfl ?_
  refine v_imul X dX10_shared_16 ?_
  refine v_iload X dX10_shared_17 4 rfl ?_
  refine v_iadd X dX10_shared_19 ?_
  refine t_lald (j := 11) X hd rfl dX10_shared_20 (fun v2 hd => ?_)
  refine v_land X dX10_shared_21 ?_
  refine t_callS X hK hd (ct_X10_ones _ am (v1 &&& v2)) (lw_S q2038 q2039 q120 q2040) dn_X10_ones rfl ⟨by decide, by decide⟩ rfl (Nat.le_of_ble_eq_true rfl) dX10_shared_22 (fun v3 ms hd => ?_)
  show V K 5 (mkM am hn ms) 25 [(0, .ref am), (1, .int p1), (2, .int p2), (3, .int p3), (4, .int p4)] [.int v3]
  refine v_aload_n X dX10_shared_25 0 0 rfl rfl ?_
  refine t_getA (j := 12) X rfl fl_X10_48 dX10_shared_26 ?_
  refine v_iconst (v := 4) X dX10_shared_29 (by decide) ?_
  refine v_iload_n X dX10_shared_30 1 1 rfl rfl ?_
  refine v_imul X dX10_shared_31 ?_
  refine v_iload_n X dX10_shared_32 2 2 rfl rfl ?_
  refine v_iadd X dX10_shared_33 ?_
  refine t_lald (j := 12) X hd rfl dX10_shared_34 (fun v4 hd => ?_)
  refine v_aload_n X dX10_shared_35 0 0 rfl rfl ?_
  refine t_getA (j := 12) X rfl fl_X10_48 dX10_shared_36 ?_
  refine v_iconst (v := 4) X dX10_shared_39 (by decide) ?_
  refine v_iload_n X dX10_shared_40 3 3 rfl rfl ?_
  refine v_imul X dX10_shared_41 ?_
  refine v_iload X dX10_shared_42 4 rfl ?_
  refine v_iadd X dX10_shared_44 ?_
  refine t_lald (j := 12) X hd rfl dX10_shared_45 (fun v5 hd => ?_)
  refine v_land X dX10_shared_46 ?_
  refine t_callS X hK hd (ct_X10_ones _ am (v4 &&& v5)) (lw_S q2038 q2039 q120 q2040) dn_X10_ones rfl ⟨by decide, by decide⟩ rfl (Nat.le_of_ble_eq_true rfl) dX10_shared_47 (fun v6 ms hd => ?_)
  show V K 5 (mkM am hn ms) 50 [(0, .ref am), (1, .int p1), (2, .int p2), (3, .int p3), (4, .int p4)] [.int v6, .int v3]
  refine v_iadd X dX10_shared_50 ?_
  exact t_iret X hK hd ho dX10_shared_51
def dkwX10_bites_2 : List UInt8 := [154, 0, 5, 2, 172, 42, 182, 1, 36, 42, 27, 28, 29, 21, 4, 182, 1, 39, 172]
abbrev dktX10_bites_2 : List UInt8 := dkwX10_bites_2 ++ []
def dkwX10_bites_1 : List UInt8 := [153, 0, 27, 27, 29, 159, 0, 22, 28, 3, 6, 184, 0, 187, 153, 0, 13, 21, 4, 3, 6, 184, 0, 187]
abbrev dktX10_bites_1 : List UInt8 := dkwX10_bites_1 ++ dktX10_bites_2
def dkwX10_bites_0 : List UInt8 := [42, 3, 181, 0, 108, 42, 182, 0, 200, 42, 27, 182, 1, 5, 153, 0, 35, 42, 29, 182, 1, 5]
abbrev dktX10_bites_0 : List UInt8 := dkwX10_bites_0 ++ dktX10_bites_1
theorem dksX10_bites_0 : cX10_bites.data.toList.drop 0 = dktX10_bites_0 := by decide +kernel
theorem dksX10_bites_1 : cX10_bites.data.toList.drop 22 = dktX10_bites_1 := dk_seg dksX10_bites_0 22 rfl rfl
theorem dksX10_bites_2 : cX10_bites.data.toList.drop 46 = dktX10_bites_2 := dk_seg dksX10_bites_1 24 rfl rfl
theorem dX10_bites_0 : decode cX10_bites 0 = .ok (.aload_n 0, 1) := dk_42 (dk_at dksX10_bites_0 0 rfl rfl)
theorem dX10_bites_1 : decode cX10_bites 1 = .ok (.iconst 0, 1) := dk_3 (dk_at dksX10_bites_0 1 rfl rfl)
theorem dX10_bites_2 : decode cX10_bites 2 = .ok (.putfield 108, 3) := dk_181 0 108 (dk_at dksX10_bites_0 2 rfl rfl)
theorem dX10_bites_5 : decode cX10_bites 5 = .ok (.aload_n 0, 1) := dk_42 (dk_at dksX10_bites_0 5 rfl rfl)
theorem dX10_bites_6 : decode cX10_bites 6 = .ok (.invokevirtual 200, 3) := dk_182 0 200 (dk_at dksX10_bites_0 6 rfl rfl)
theorem dX10_bites_9 : decode cX10_bites 9 = .ok (.aload_n 0, 1) := dk_42 (dk_at dksX10_bites_0 9 rfl rfl)
theorem dX10_bites_10 : decode cX10_bites 10 = .ok (.iload_n 1, 1) := dk_27 (dk_at dksX10_bites_0 10 rfl rfl)
theorem dX10_bites_11 : decode cX10_bites 11 = .ok (.invokevirtual 261, 3) := dk_182 1 5 (dk_at dksX10_bites_0 11 rfl rfl)
theorem dX10_bites_14 : decode cX10_bites 14 = .ok (.ifCond .eq 35, 3) := dk_153 0 35 (dk_at dksX10_bites_0 14 rfl rfl)
theorem dX10_bites_17 : decode cX10_bites 17 = .ok (.aload_n 0, 1) := dk_42 (dk_at dksX10_bites_0 17 rfl rfl)
theorem dX10_bites_18 : decode cX10_bites 18 = .ok (.iload_n 3, 1) := dk_29 (dk_at dksX10_bites_0 18 rfl rfl)
theorem dX10_bites_19 : decode cX10_bites 19 = .ok (.invokevirtual 261, 3) := dk_182 1 5 (dk_at dksX10_bites_0 19 rfl rfl)
theorem dX10_bites_22 : decode cX10_bites 22 = .ok (.ifCond .eq 27, 3) := dk_153 0 27 (dk_at dksX10_bites_1 0 rfl rfl)
theorem dX10_bites_25 : decode cX10_bites 25 = .ok (.iload_n 1, 1) := dk_27 (dk_at dksX10_bites_1 3 rfl rfl)
theorem dX10_bites_26 : decode cX10_bites 26 = .ok (.iload_n 3, 1) := dk_29 (dk_at dksX10_bites_1 4 rfl rfl)
theorem dX10_bites_27 : decode cX10_bites 27 = .ok (.if_icmp .eq 22, 3) := dk_159 0 22 (dk_at dksX10_bites_1 5 rfl rfl)
theorem dX10_bites_30 : decode cX10_bites 30 = .ok (.iload_n 2, 1) := dk_28 (dk_at dksX10_bites_1 8 rfl rfl)
theorem dX10_bites_31 : decode cX10_bites 31 = .ok (.iconst 0, 1) := dk_3 (dk_at dksX10_bites_1 9 rfl rfl)
theorem dX10_bites_32 : decode cX10_bites 32 = .ok (.iconst 3, 1) := dk_6 (dk_at dksX10_bites_1 10 rfl rfl)
theorem dX10_bites_33 : decode cX10_bites 33 = .ok (.invokestatic 187, 3) := dk_184 0 187 (dk_at dksX10_bites_1 11 rfl rfl)
theorem dX10_bites_36 : decode cX10_bites 36 = .ok (.ifCond .eq 13, 3) := dk_153 0 13 (dk_at dksX10_bites_1 14 rfl rfl)
theorem dX10_bites_39 : decode cX10_bites 39 = .ok (.iload 4, 2) := dk_21 4 (dk_at dksX10_bites_1 17 rfl rfl)
theorem dX10_bites_41 : decode cX10_bites 41 = .ok (.iconst 0, 1) := dk_3 (dk_at dksX10_bites_1 19 rfl rfl)
theorem dX10_bites_42 : decode cX10_bites 42 = .ok (.iconst 3, 1) := dk_6 (dk_at dksX10_bites_1 20 rfl rfl)
theorem dX10_bites_43 : decode cX10_bites 43 = .ok (.invokestatic 187, 3) := dk_184 0 187 (dk_at dksX10_bites_1 21 rfl rfl)
theorem dX10_bites_46 : decode cX10_bites 46 = .ok (.ifCond .ne 5, 3) := dk_154 0 5 (dk_at dksX10_bites_2 0 rfl rfl)
theorem dX10_bites_49 : decode cX10_bites 49 = .ok (.iconst (-1), 1) := dk_2 (dk_at dksX10_bites_2 3 rfl rfl)
theorem dX10_bites_50 : decode cX10_bites 50 = .ok (.ireturn, 1) := dk_172 (dk_at dksX10_bites_2 4 rfl rfl)
theorem dX10_bites_51 : decode cX10_bites 51 = .ok (.aload_n 0, 1) := dk_42 (dk_at dksX10_bites_2 5 rfl rfl)
theorem dX10_bites_52 : decode cX10_bites 52 = .ok (.invokevirtual 292, 3) := dk_182 1 36 (dk_at dksX10_bites_2 6 rfl rfl)
theorem dX10_bites_55 : decode cX10_bites 55 = .ok (.aload_n 0, 1) := dk_42 (dk_at dksX10_bites_2 9 rfl rfl)
theorem dX10_bites_56 : decode cX10_bites 56 = .ok (.iload_n 1, 1) := dk_27 (dk_at dksX10_bites_2 10 rfl rfl)
theorem dX10_bites_57 : decode cX10_bites 57 = .ok (.iload_n 2, 1) := dk_28 (dk_at dksX10_bites_2 11 rfl rfl)
theorem dX10_bites_58 : decode cX10_bites 58 = .ok (.iload_n 3, 1) := dk_29 (dk_at dksX10_bites_2 12 rfl rfl)
theorem dX10_bites_59 : decode cX10_bites 59 = .ok (.iload 4, 2) := dk_21 4 (dk_at dksX10_bites_2 13 rfl rfl)
theorem dX10_bites_61 : decode cX10_bites 61 = .ok (.invokevirtual 295, 3) := dk_182 1 39 (dk_at dksX10_bites_2 15 rfl rfl)
theorem dX10_bites_64 : decode cX10_bites 64 = .ok (.ireturn, 1) := dk_172 (dk_at dksX10_bites_2 18 rfl rfl)
theorem dn_X10_bites : yX10_bites.cls ≠ "java/lang/invoke/MethodHandle" ∧ yX10_bites.cls ≠ "java/lang/invoke/VarHandle" ∧ (parseMethodDescriptor yX10_bites.desc).map (fun d => d.parameters.length) = some 4 := by decide +kernel
noncomputable def M_X10_bites (p1 : Int32) (p2 : Int32) (p3 : Int32) (p4 : Int32) : TM Int32 := TM.bind (sI 0 0) (fun _ => TM.bind (M_X10_lay) (fun v1 => TM.bind (M_X10_isDoor p1) (fun v2 => cond v2 (TM.bind (M_X10_isDoor p3) (fun v3 => cond v3 (if p1 = p3 then TM.pure (-1) else TM.bind (M_X10_isIn p2 0 3) (fun v4 => cond v4 (TM.bind (M_X10_isIn p4 0 3) (fun v5 => cond v5 (TM.bind (M_X10_laySwept) (fun v6 => TM.bind (M_X10_shared p1 p2 p3 p4) (fun v7 => TM.pure v7))) (TM.pure (-1)))) (TM.pure (-1)))) (TM.pure (-1)))) (TM.pure (-1)))))
set_option maxHeartbeats 4000000 in
theorem ct_X10_bites (G : gG) (am : Nat) (p1 : Int32) (p2 : Int32) (p3 : Int32) (p4 : Int32) : gCtM G am yX10_bites cX10_bites 5 (some .int) 5 127 [.ref am, .int p1, .int p2, .int p3, .int p4] (M_X10_bites p1 p2 p3 p4) (fun x : Int32 => some (.int x)) := by
  refine gCtM.of (by decide) (Nat.le_of_ble_eq_true rfl) (fun K hn ms ms' r hG X hK hd ho => ?_)
  subst hG
  have X : gX K cX10_bites 5 "BitingDoorsModel" "bites" (some .int) 5 127 := X
  show V K 5 (mkM am hn ms) 0 [(0, .ref am), (1, .int p1), (2, .int p2), (3, .int p3), (4, .int p4)] []
  unfold M_X10_bites at hd
  refine v_aload_n X dX10_bites_0 0 0 rfl rfl ?_
  refine v_iconst (v := 0) X dX10_bites_1 (by decide) ?_
  refine t_putI X hd rfl fp_X10_108 dX10_bites_2 (fun ms hd => ?_)
  refine v_aload_n X dX10_bites_5 0 0 rfl rfl ?_
  refine t_callV X hK hd (ct_X10_lay _ am) (lw_V q1868 q1870 qs37 q120 q1871) ⟨rfl, dn_X10_lay⟩ rfl ⟨by decide, by decide⟩ rfl (Nat.le_of_ble_eq_true rfl) dX10_bites_6 (fun v1 ms hd => ?_)
  show V K 5 (mkM am hn ms) 9 [(0, .ref am), (1, .int p1), (2, .int p2), (3, .int p3), (4, .int p4)] []
  refine v_aload_n X dX10_bites_9 0 0 rfl rfl ?_
  refine v_iload_n X dX10_bites_10 1 1 rfl rfl ?_
  refine t_callV X hK hd (ct_X10_isDoor _ am p1) (lw_V q1982 q1984 qs56 q120 q1985) ⟨rfl, dn_X10_isDoor⟩ rfl ⟨by decide, by decide⟩ rfl (Nat.le_of_ble_eq_true rfl) dX10_bites_11 (fun v2 ms hd => ?_)
  show V K 5 (mkM am hn ms) 14 [(0, .ref am), (1, .int p1), (2, .int p2), (3, .int p3), (4, .int p4)] [.int (b2i v2)]
  refine v_ifZ_eq (tgt := 49) X dX10_bites_14 (by decide) (fun q => ?_) (fun q => ?_)
  · have hd := Tcnd_f q hd
    refine v_iconst (v := (-1)) X dX10_bites_49 (by decide) ?_
    exact t_iret X hK hd ho dX10_bites_50
  · have hd := Tcnd_t q hd
    refine v_aload_n X dX10_bites_17 0 0 rfl rfl ?_
    refine v_iload_n X dX10_bites_18 3 3 rfl rfl ?_
    refine t_callV X hK hd (ct_X10_isDoor _ am p3) (lw_V q1982 q1984 qs56 q120 q1985) ⟨rfl, dn_X10_isDoor⟩ rfl ⟨by decide, by decide⟩ rfl (Nat.le_of_ble_eq_true rfl) dX10_bites_19 (fun v3 ms hd => ?_)
    show V K 5 (mkM am hn ms) 22 [(0, .ref am), (1, .int p1), (2, .int p2), (3, .int p3), (4, .int p4)] [.int (b2i v3)]
    refine v_ifZ_eq (tgt := 49) X dX10_bites_22 (by decide) (fun q => ?_) (fun q => ?_)
    · have hd := Tcnd_f q hd
      refine v_iconst (v := (-1)) X dX10_bites_49 (by decide) ?_
      exact t_iret X hK hd ho dX10_bites_50
    · have hd := Tcnd_t q hd
      refine v_iload_n X dX10_bites_25 1 1 rfl rfl ?_
      refine v_iload_n X dX10_bites_26 3 3 rfl rfl ?_
      refine v_icmp_eq (tgt := 49) X dX10_bites_27 (by decide) (fun q => ?_) (fun q => ?_)
      · have hd := Tite_t q hd
        refine v_iconst (v := (-1)) X dX10_bites_49 (by decide) ?_
        exact t_iret X hK hd ho dX10_bites_50
      · have hd := Tite_f q hd
        refine v_iload_n X dX10_bites_30 2 2 rfl rfl ?_
        refine v_iconst (v := 0) X dX10_bites_31 (by decide) ?_
        refine v_iconst (v := 3) X dX10_bites_32 (by decide) ?_
        refine t_callS X hK hd (ct_X10_isIn _ am p2 0 3) (lw_S q1940 q1941 q120 q1942) dn_X10_isIn rfl ⟨by decide, by decide⟩ rfl (Nat.le_of_ble_eq_true rfl) dX10_bites_33 (fun v4 ms hd => ?_)
        show V K 5 (mkM am hn ms) 36 [(0, .ref am), (1, .int p1), (2, .int p2), (3, .int p3), (4, .int p4)] [.int (b2i v4)]
        refine v_ifZ_eq (tgt := 49) X dX10_bites_36 (by decide) (fun q => ?_) (fun q => ?_)
        · have hd := Tcnd_f q hd
          refine v_iconst (v := (-1)) X dX10_bites_49 (by decide) ?_
          exact t_iret X hK hd ho dX10_bites_50
        · have hd := Tcnd_t q hd
          refine v_iload X dX10_bites_39 4 rfl ?_
          refine v_iconst (v := 0) X dX10_bites_41 (by decide) ?_
          refine v_iconst (v := 3) X dX10_bites_42 (by decide) ?_
          refine t_callS X hK hd (ct_X10_isIn _ am p4 0 3) (lw_S q1940 q1941 q120 q1942) dn_X10_isIn rfl ⟨by decide, by decide⟩ rfl (Nat.le_of_ble_eq_true rfl) dX10_bites_43 (fun v5 ms hd => ?_)
          show V K 5 (mkM am hn ms) 46 [(0, .ref am), (1, .int p1), (2, .int p2), (3, .int p3), (4, .int p4)] [.int (b2i v5)]
          refine v_ifZ_ne (tgt := 51) X dX10_bites_46 (by decide) (fun q => ?_) (fun q => ?_)
          · have hd := Tcnd_t q hd
            refine v_aload_n X dX10_bites_51 0 0 rfl rfl ?_
            refine t_callV X hK hd (ct_X10_laySwept _ am) (lw_V q2030 q2032 qs64 q120 q2033) ⟨rfl, dn_X10_laySwept⟩ rfl ⟨by decide, by decide⟩ rfl (Nat.le_of_ble_eq_true rfl) dX10_bites_52 (fun v6 ms hd => ?_)
            show V K 5 (mkM am hn ms) 55 [(0, .ref am), (1, .int p1), (2, .int p2), (3, .int p3), (4, .int p4)] []
            refine v_aload_n X dX10_bites_55 0 0 rfl rfl ?_
            refine v_iload_n X dX10_bites_56 1 1 rfl rfl ?_
            refine v_iload_n X dX10_bites_57 2 2 rfl rfl ?_
            refine v_iload_n X dX10_bites_58 3 3 rfl rfl ?_
            refine v_iload X dX10_bites_59 4 rfl ?_
            refine t_callV X hK hd (ct_X10_shared _ am p1 p2 p3 p4) (lw_V q2034 q2036 qs65 q120 q2037) ⟨rfl, dn_X10_shared⟩ rfl ⟨by decide, by decide⟩ rfl (Nat.le_of_ble_eq_true rfl) dX10_bites_61 (fun v7 ms hd => ?_)
            show V K 5 (mkM am hn ms) 64 [(0, .ref am), (1, .int p1), (2, .int p2), (3, .int p3), (4, .int p4)] [.int v7]
            exact t_iret X hK hd ho dX10_bites_64
          · have hd := Tcnd_f q hd
            refine v_iconst (v := (-1)) X dX10_bites_49 (by decide) ?_
            exact t_iret X hK hd ho dX10_bites_50
def dkwX10_clashesOf_2 : List UInt8 := [132, 3, 1, 167, 255, 210, 28, 172]
abbrev dktX10_clashesOf_2 : List UInt8 := dkwX10_clashesOf_2 ++ []
def dkwX10_clashesOf_1 : List UInt8 := [29, 46, 21, 4, 43, 21, 4, 46, 182, 1, 42, 153, 0, 6, 132, 2, 1, 132, 4, 1, 167, 255, 227]
abbrev dktX10_clashesOf_1 : List UInt8 := dkwX10_clashesOf_1 ++ dktX10_clashesOf_2
def dkwX10_clashesOf_0 : List UInt8 := [3, 61, 3, 62, 29, 42, 182, 0, 211, 162, 0, 44, 3, 54, 4, 21, 4, 29, 162, 0, 29, 42, 29, 43]
abbrev dktX10_clashesOf_0 : List UInt8 := dkwX10_clashesOf_0 ++ dktX10_clashesOf_1
theorem dksX10_clashesOf_0 : cX10_clashesOf.data.toList.drop 0 = dktX10_clashesOf_0 := by decide +kernel
theorem dksX10_clashesOf_1 : cX10_clashesOf.data.toList.drop 24 = dktX10_clashesOf_1 := dk_seg dksX10_clashesOf_0 24 rfl rfl
theorem dksX10_clashesOf_2 : cX10_clashesOf.data.toList.drop 47 = dktX10_clashesOf_2 := dk_seg dksX10_clashesOf_1 23 rfl rfl
theorem dX10_clashesOf_0 : decode cX10_clashesOf 0 = .ok (.iconst 0, 1) := dk_3 (dk_at dksX10_clashesOf_0 0 rfl rfl)
theorem dX10_clashesOf_1 : decode cX10_clashesOf 1 = .ok (.istore_n 2, 1) := dk_61 (dk_at dksX10_clashesOf_0 1 rfl rfl)
theorem dX10_clashesOf_2 : decode cX10_clashesOf 2 = .ok (.iconst 0, 1) := dk_3 (dk_at dksX10_clashesOf_0 2 rfl rfl)
theorem dX10_clashesOf_3 : decode cX10_clashesOf 3 = .ok (.istore_n 3, 1) := dk_62 (dk_at dksX10_clashesOf_0 3 rfl rfl)
theorem dX10_clashesOf_4 : decode cX10_clashesOf 4 = .ok (.iload_n 3, 1) := dk_29 (dk_at dksX10_clashesOf_0 4 rfl rfl)
theorem dX10_clashesOf_5 : decode cX10_clashesOf 5 = .ok (.aload_n 0, 1) := dk_42 (dk_at dksX10_clashesOf_0 5 rfl rfl)
theorem dX10_clashesOf_6 : decode cX10_clashesOf 6 = .ok (.invokevirtual 211, 3) := dk_182 0 211 (dk_at dksX10_clashesOf_0 6 rfl rfl)
theorem dX10_clashesOf_9 : decode cX10_clashesOf 9 = .ok (.if_icmp .ge 44, 3) := dk_162 0 44 (dk_at dksX10_clashesOf_0 9 rfl rfl)
theorem dX10_clashesOf_12 : decode cX10_clashesOf 12 = .ok (.iconst 0, 1) := dk_3 (dk_at dksX10_clashesOf_0 12 rfl rfl)
theorem dX10_clashesOf_13 : decode cX10_clashesOf 13 = .ok (.istore 4, 2) := dk_54 4 (dk_at dksX10_clashesOf_0 13 rfl rfl)
theorem dX10_clashesOf_15 : decode cX10_clashesOf 15 = .ok (.iload 4, 2) := dk_21 4 (dk_at dksX10_clashesOf_0 15 rfl rfl)
theorem dX10_clashesOf_17 : decode cX10_clashesOf 17 = .ok (.iload_n 3, 1) := dk_29 (dk_at dksX10_clashesOf_0 17 rfl rfl)
theorem dX10_clashesOf_18 : decode cX10_clashesOf 18 = .ok (.if_icmp .ge 29, 3) := dk_162 0 29 (dk_at dksX10_clashesOf_0 18 rfl rfl)
theorem dX10_clashesOf_21 : decode cX10_clashesOf 21 = .ok (.aload_n 0, 1) := dk_42 (dk_at dksX10_clashesOf_0 21 rfl rfl)
theorem dX10_clashesOf_22 : decode cX10_clashesOf 22 = .ok (.iload_n 3, 1) := dk_29 (dk_at dksX10_clashesOf_0 22 rfl rfl)
theorem dX10_clashesOf_23 : decode cX10_clashesOf 23 = .ok (.aload_n 1, 1) := dk_43 (dk_at dksX10_clashesOf_0 23 rfl rfl)
theorem dX10_clashesOf_24 : decode cX10_clashesOf 24 = .ok (.iload_n 3, 1) := dk_29 (dk_at dksX10_clashesOf_1 0 rfl rfl)
theorem dX10_clashesOf_25 : decode cX10_clashesOf 25 = .ok (.iaload, 1) := dk_46 (dk_at dksX10_clashesOf_1 1 rfl rfl)
theorem dX10_clashesOf_26 : decode cX10_clashesOf 26 = .ok (.iload 4, 2) := dk_21 4 (dk_at dksX10_clashesOf_1 2 rfl rfl)
theorem dX10_clashesOf_28 : decode cX10_clashesOf 28 = .ok (.aload_n 1, 1) := dk_43 (dk_at dksX10_clashesOf_1 4 rfl rfl)
theorem dX10_clashesOf_29 : decode cX10_clashesOf 29 = .ok (.iload 4, 2) := dk_21 4 (dk_at dksX10_clashesOf_1 5 rfl rfl)
theorem dX10_clashesOf_31 : decode cX10_clashesOf 31 = .ok (.iaload, 1) := dk_46 (dk_at dksX10_clashesOf_1 7 rfl rfl)
theorem dX10_clashesOf_32 : decode cX10_clashesOf 32 = .ok (.invokevirtual 298, 3) := dk_182 1 42 (dk_at dksX10_clashesOf_1 8 rfl rfl)
theorem dX10_clashesOf_35 : decode cX10_clashesOf 35 = .ok (.ifCond .eq 6, 3) := dk_153 0 6 (dk_at dksX10_clashesOf_1 11 rfl rfl)
theorem dX10_clashesOf_38 : decode cX10_clashesOf 38 = .ok (.iinc 2 1, 3) := dk_132 2 1 (dk_at dksX10_clashesOf_1 14 rfl rfl)
theorem dX10_clashesOf_41 : decode cX10_clashesOf 41 = .ok (.iinc 4 1, 3) := dk_132 4 1 (dk_at dksX10_clashesOf_1 17 rfl rfl)
theorem dX10_clashesOf_44 : decode cX10_clashesOf 44 = .ok (.goto (-29), 3) := dk_167 255 227 (dk_at dksX10_clashesOf_1 20 rfl rfl)
theorem dX10_clashesOf_47 : decode cX10_clashesOf 47 = .ok (.iinc 3 1, 3) := dk_132 3 1 (dk_at dksX10_clashesOf_2 0 rfl rfl)
theorem dX10_clashesOf_50 : decode cX10_clashesOf 50 = .ok (.goto (-46), 3) := dk_167 255 210 (dk_at dksX10_clashesOf_2 3 rfl rfl)
theorem dX10_clashesOf_53 : decode cX10_clashesOf 53 = .ok (.iload_n 2, 1) := dk_28 (dk_at dksX10_clashesOf_2 6 rfl rfl)
theorem dX10_clashesOf_54 : decode cX10_clashesOf 54 = .ok (.ireturn, 1) := dk_172 (dk_at dksX10_clashesOf_2 7 rfl rfl)
theorem dn_X10_clashesOf : yX10_clashesOf.cls ≠ "java/lang/invoke/MethodHandle" ∧ yX10_clashesOf.cls ≠ "java/lang/invoke/VarHandle" ∧ (parseMethodDescriptor yX10_clashesOf.desc).map (fun d => d.parameters.length) = some 1 := by decide +kernel
noncomputable def M_X10_clashesOf  : TM Int32 := TM.bind (TM.loop (S := Int32 × Int32) (E := Int32) (fun s1 => TM.bind (M_X10_doors) (fun v5 => if v5 ≤ s1.2 then TM.pure (Sum.inr s1.1) else TM.bind (TM.loop (S := Int32 × Int32) (E := Int32) (fun s6 => if s1.2 ≤ s6.2 then TM.pure (Sum.inr s6.1) else TM.bind (tA 30 10 s1.2) (fun v10 => TM.bind (tA 30 10 s6.2) (fun v11 => TM.bind (M_X10_bite s1.2 v10 s6.2 v11) (fun v12 => TM.bind ((cond v12 (TM.lv (s6.1 + 1) (fun v15 => TM.pure v15)) (TM.pure s6.1) : TM (Int32))) (fun u13 => TM.lv (s6.2 + 1) (fun v14 => TM.pure (Sum.inl (u13, v14)))))))) (s1.1, 0)) (fun e9 => TM.lv (s1.2 + 1) (fun v16 => TM.pure (Sum.inl (e9, v16)))))) (0, 0)) (fun e4 => TM.pure e4)
set_option maxHeartbeats 4000000 in
theorem ct_X10_clashesOf (G : gG) (am : Nat)  : gCtM G am yX10_clashesOf cX10_clashesOf 5 (some .int) 1 24 [.ref am, .ref (am + (14 + 1))] (M_X10_clashesOf) (fun x : Int32 => some (.int x)) := by
  refine gCtM.of (by decide) (Nat.le_of_ble_eq_true rfl) (fun K hn ms ms' r hG X hK hd ho => ?_)
  subst hG
  have X : gX K cX10_clashesOf 5 "BitingDoorsModel" "clashesOf" (some .int) 1 24 := X
  show V K 5 (mkM am hn ms) 0 [(0, .ref am), (1, .ref (am + (14 + 1)))] []
  unfold M_X10_clashesOf at hd
  refine v_iconst (v := 0) X dX10_clashesOf_0 (by decide) ?_
  refine v_istore_n (lv2 := [(2, .int 0), (0, .ref am), (1, .ref (am + (14 + 1)))]) X dX10_clashesOf_1 2 rfl (by decide) rfl ?_
  refine v_iconst (v := 0) X dX10_clashesOf_2 (by decide) ?_
  refine v_istore_n (lv2 := [(3, .int 0), (2, .int 0), (0, .ref am), (1, .ref (am + (14 + 1)))]) X dX10_clashesOf_3 3 rfl (by decide) rfl ?_
  obtain ⟨e4, m1, hd, hd2⟩ := TM.bind_some hd
  have KX : V K 5 (mkM am hn m1) 53 [(2, .int e4)] [] := by
    clear hd
    have hd := hd2
    refine v_iload_n X dX10_clashesOf_53 0 2 rfl rfl ?_
    exact t_iret X hK hd ho dX10_clashesOf_54
  clear hd2
  refine v_loc [2, 3, 1, 0] rfl ?_
  refine Tloop_ind hd (fun (s1 : Int32 × Int32) m => V K 5 (mkM am hn m) 4 [(0, .ref am), (1, .ref (am + (14 + 1))), (2, .int s1.1), (3, .int s1.2)] []) (fun s1 ms x m2 hd ih2 ho3 => ?_)
  refine v_iload_n X dX10_clashesOf_4 3 3 rfl rfl ?_
  refine v_aload_n X dX10_clashesOf_5 0 0 rfl rfl ?_
  refine t_callV X hK hd (ct_X10_doors _ am) (lw_V q1986 q1988 qs57 q120 q1989) ⟨rfl, dn_X10_doors⟩ rfl ⟨by decide, by decide⟩ rfl (Nat.le_of_ble_eq_true rfl) dX10_clashesOf_6 (fun v5 ms hd => ?_)
  show V K 5 (mkM am hn ms) 9 [(0, .ref am), (1, .ref (am + (14 + 1))), (2, .int s1.1), (3, .int s1.2)] [.int v5, .int s1.2]
  refine v_icmp_ge (tgt := 53) X dX10_clashesOf_9 (by decide) (fun q => ?_) (fun q => ?_)
  · have hd := Tite_t q hd
    exact v_loc [2] rfl (t_at (P := fun (e4 : Int32) m => V K 5 (mkM am hn m) 53 [(2, .int e4)] []) (Tlp_out hd ho3) KX)
  · have hd := Tite_f q hd
    refine v_iconst (v := 0) X dX10_clashesOf_12 (by decide) ?_
    refine v_istore (lv2 := [(4, .int 0), (0, .ref am), (1, .ref (am + (14 + 1))), (2, .int s1.1), (3, .int s1.2)]) X dX10_clashesOf_13 (by decide) rfl ?_
    obtain ⟨e9, m1, hd, hd2⟩ := TM.bind_some hd
    have KX : V K 5 (mkM am hn m1) 47 [(0, .ref am), (1, .ref (am + (14 + 1))), (2, .int e9), (3, .int s1.2)] [] := by
      clear hd
      have hd := hd2
      refine t_iincL (lv2 := fun v16 => [(3, .int v16), (0, .ref am), (1, .ref (am + (14 + 1))), (2, .int e9)]) X hd dX10_clashesOf_47 3 rfl (by decide : Int32.ofInt 1 = 1) (by decide) (fun v16 => rfl) (fun v16 hd => ?_)
      refine v_goto (tgt := 4) X dX10_clashesOf_50 (by decide) ?_
      exact v_loc [1, 2, 3, 0] rfl (Tlp_in (P := fun (s1 : Int32 × Int32) m => V K 5 (mkM am hn m) 4 [(0, .ref am), (1, .ref (am + (14 + 1))), (2, .int s1.1), (3, .int s1.2)] []) hd ih2)
    clear hd2
    refine v_loc [1, 2, 3, 4, 0] rfl ?_
    refine Tloop_ind hd (fun (s6 : Int32 × Int32) m => V K 5 (mkM am hn m) 15 [(0, .ref am), (1, .ref (am + (14 + 1))), (2, .int s6.1), (3, .int s1.2), (4, .int s6.2)] []) (fun s6 ms x m2 hd ih7 ho8 => ?_)
    refine v_iload X dX10_clashesOf_15 4 rfl ?_
    refine v_iload_n X dX10_clashesOf_17 3 3 rfl rfl ?_
    refine v_icmp_ge (tgt := 47) X dX10_clashesOf_18 (by decide) (fun q => ?_) (fun q => ?_)
    · have hd := Tite_t q hd
      exact v_loc [0, 1, 2, 3] rfl (t_at (P := fun (e9 : Int32) m => V K 5 (mkM am hn m) 47 [(0, .ref am), (1, .ref (am + (14 + 1))), (2, .int e9), (3, .int s1.2)] []) (Tlp_out hd ho8) KX)
    · have hd := Tite_f q hd
      refine v_aload_n X dX10_clashesOf_21 0 0 rfl rfl ?_
      refine v_iload_n X dX10_clashesOf_22 3 3 rfl rfl ?_
      refine v_aload_n X dX10_clashesOf_23 1 1 rfl rfl ?_
      refine v_iload_n X dX10_clashesOf_24 3 3 rfl rfl ?_
      refine t_iald (j := 14) X hd rfl dX10_clashesOf_25 (fun v10 hd => ?_)
      refine v_iload X dX10_clashesOf_26 4 rfl ?_
      refine v_aload_n X dX10_clashesOf_28 1 1 rfl rfl ?_
      refine v_iload X dX10_clashesOf_29 4 rfl ?_
      refine t_iald (j := 14) X hd rfl dX10_clashesOf_31 (fun v11 hd => ?_)
      refine t_callV X hK hd (ct_X10_bite _ am s1.2 v10 s6.2 v11) (lw_V q2049 q2051 qs67 q120 q2052) ⟨rfl, dn_X10_bite⟩ rfl ⟨by decide, by decide⟩ rfl (Nat.le_of_ble_eq_true rfl) dX10_clashesOf_32 (fun v12 ms hd => ?_)
      show V K 5 (mkM am hn ms) 35 [(0, .ref am), (1, .ref (am + (14 + 1))), (2, .int s6.1), (3, .int s1.2), (4, .int s6.2)] [.int (b2i v12)]
      obtain ⟨u13, m1, hd, hd2⟩ := TM.bind_some hd
      have KJ : V K 5 (mkM am hn m1) 41 [(0, .ref am), (1, .ref (am + (14 + 1))), (2, .int u13), (3, .int s1.2), (4, .int s6.2)] [] := by
        clear hd
        have hd := hd2
        refine t_iincL (lv2 := fun v14 => [(4, .int v14), (0, .ref am), (1, .ref (am + (14 + 1))), (2, .int u13), (3, .int s1.2)]) X hd dX10_clashesOf_41 4 rfl (by decide : Int32.ofInt 1 = 1) (by decide) (fun v14 => rfl) (fun v14 hd => ?_)
        refine v_goto (tgt := 15) X dX10_clashesOf_44 (by decide) ?_
        exact v_loc [1, 2, 3, 4, 0] rfl (Tlp_in (P := fun (s6 : Int32 × Int32) m => V K 5 (mkM am hn m) 15 [(0, .ref am), (1, .ref (am + (14 + 1))), (2, .int s6.1), (3, .int s1.2), (4, .int s6.2)] []) hd ih7)
      clear hd2
      refine v_ifZ_eq (tgt := 41) X dX10_clashesOf_35 (by decide) (fun q => ?_) (fun q => ?_)
      · have hd := Tcnd_f q hd
        exact v_loc [0, 1, 2, 3, 4] rfl (t_at (P := fun (u13 : Int32) m => V K 5 (mkM am hn m) 41 [(0, .ref am), (1, .ref (am + (14 + 1))), (2, .int u13), (3, .int s1.2), (4, .int s6.2)] []) hd KJ)
      · have hd := Tcnd_t q hd
        refine t_iincL (lv2 := fun v15 => [(2, .int v15), (0, .ref am), (1, .ref (am + (14 + 1))), (3, .int s1.2), (4, .int s6.2)]) X hd dX10_clashesOf_38 2 rfl (by decide : Int32.ofInt 1 = 1) (by decide) (fun v15 => rfl) (fun v15 hd => ?_)
        exact v_loc [1, 2, 0, 3, 4] rfl (t_at (P := fun (u13 : Int32) m => V K 5 (mkM am hn m) 41 [(0, .ref am), (1, .ref (am + (14 + 1))), (2, .int u13), (3, .int s1.2), (4, .int s6.2)] []) hd KJ)
def dkwX10_joiner_14 : List UInt8 := [42, 180, 0, 72, 3, 46, 172]
abbrev dktX10_joiner_14 : List UInt8 := dkwX10_joiner_14 ++ []
def dkwX10_joiner_13 : List UInt8 := [180, 1, 95, 29, 79, 42, 89, 180, 1, 95, 4, 96, 181, 1, 95, 28, 4, 29, 120, 128, 61, 167, 255, 182]
abbrev dktX10_joiner_13 : List UInt8 := dkwX10_joiner_13 ++ dktX10_joiner_14
def dkwX10_joiner_12 : List UInt8 := [29, 120, 128, 46, 42, 180, 0, 72, 3, 46, 164, 0, 9, 132, 3, 1, 167, 255, 218, 42, 180, 0, 75, 42]
abbrev dktX10_joiner_12 : List UInt8 := dkwX10_joiner_12 ++ dktX10_joiner_13
def dkwX10_joiner_11 : List UInt8 := [3, 62, 27, 29, 184, 0, 231, 153, 0, 30, 28, 29, 184, 0, 231, 154, 0, 22, 42, 180, 0, 72, 28, 4]
abbrev dktX10_joiner_11 : List UInt8 := dkwX10_joiner_11 ++ dktX10_joiner_12
def dkwX10_joiner_10 : List UInt8 := [180, 0, 69, 28, 46, 79, 132, 2, 255, 167, 255, 77, 42, 3, 181, 1, 95, 3, 61, 28, 27, 159, 0, 75]
abbrev dktX10_joiner_10 : List UInt8 := dkwX10_joiner_10 ++ dktX10_joiner_11
def dkwX10_joiner_9 : List UInt8 := [167, 255, 199, 42, 180, 0, 72, 28, 29, 42, 180, 0, 69, 28, 46, 164, 0, 7, 29, 167, 0, 9, 42]
abbrev dktX10_joiner_9 : List UInt8 := dkwX10_joiner_9 ++ dktX10_joiner_10
def dkwX10_joiner_8 : List UInt8 := [21, 4, 120, 128, 46, 29, 162, 0, 15, 42, 180, 0, 72, 28, 4, 21, 4, 120, 128, 46, 62, 132, 4, 1]
abbrev dktX10_joiner_8 : List UInt8 := dkwX10_joiner_8 ++ dktX10_joiner_9
def dkwX10_joiner_7 : List UInt8 := [21, 4, 184, 0, 231, 153, 0, 39, 28, 21, 4, 184, 0, 231, 154, 0, 30, 42, 180, 0, 72, 28, 4]
abbrev dktX10_joiner_7 : List UInt8 := dkwX10_joiner_7 ++ dktX10_joiner_8
def dkwX10_joiner_6 : List UInt8 := [160, 0, 7, 3, 167, 0, 6, 17, 3, 232, 62, 3, 54, 4, 21, 4, 42, 182, 0, 211, 162, 0, 54, 27]
abbrev dktX10_joiner_6 : List UInt8 := dkwX10_joiner_6 ++ dktX10_joiner_7
def dkwX10_joiner_5 : List UInt8 := [132, 3, 1, 167, 255, 216, 42, 180, 0, 69, 28, 42, 42, 180, 0, 54, 182, 1, 46, 79, 28, 27]
abbrev dktX10_joiner_5 : List UInt8 := dkwX10_joiner_5 ++ dktX10_joiner_6
def dkwX10_joiner_4 : List UInt8 := [28, 29, 184, 0, 231, 153, 0, 12, 42, 180, 0, 57, 29, 46, 167, 0, 9, 42, 29, 7, 182, 1, 11, 79]
abbrev dktX10_joiner_4 : List UInt8 := dkwX10_joiner_4 ++ dktX10_joiner_5
def dkwX10_joiner_3 : List UInt8 := [2, 130, 126, 153, 0, 6, 167, 0, 164, 3, 62, 29, 42, 182, 0, 211, 162, 0, 38, 42, 180, 0, 54, 29]
abbrev dktX10_joiner_3 : List UInt8 := dkwX10_joiner_3 ++ dktX10_joiner_4
def dkwX10_joiner_2 : List UInt8 := [120, 128, 60, 132, 2, 1, 167, 255, 224, 4, 42, 182, 0, 211, 120, 4, 100, 61, 28, 155, 0, 181, 28, 27]
abbrev dktX10_joiner_2 : List UInt8 := dkwX10_joiner_2 ++ dktX10_joiner_3
def dkwX10_joiner_1 : List UInt8 := [182, 0, 211, 162, 0, 30, 42, 180, 0, 57, 28, 46, 42, 28, 7, 182, 1, 11, 159, 0, 9, 27, 4, 28]
abbrev dktX10_joiner_1 : List UInt8 := dkwX10_joiner_1 ++ dktX10_joiner_2
def dkwX10_joiner_0 : List UInt8 := [42, 3, 181, 0, 108, 42, 4, 182, 1, 64, 2, 160, 0, 5, 2, 172, 3, 60, 3, 61, 28, 42]
abbrev dktX10_joiner_0 : List UInt8 := dkwX10_joiner_0 ++ dktX10_joiner_1
theorem dksX10_joiner_0 : cX10_joiner.data.toList.drop 0 = dktX10_joiner_0 := by decide +kernel
theorem dksX10_joiner_1 : cX10_joiner.data.toList.drop 22 = dktX10_joiner_1 := dk_seg dksX10_joiner_0 22 rfl rfl
theorem dksX10_joiner_2 : cX10_joiner.data.toList.drop 46 = dktX10_joiner_2 := dk_seg dksX10_joiner_1 24 rfl rfl
theorem dksX10_joiner_3 : cX10_joiner.data.toList.drop 70 = dktX10_joiner_3 := dk_seg dksX10_joiner_2 24 rfl rfl
theorem dksX10_joiner_4 : cX10_joiner.data.toList.drop 94 = dktX10_joiner_4 := dk_seg dksX10_joiner_3 24 rfl rfl
theorem dksX10_joiner_5 : cX10_joiner.data.toList.drop 118 = dktX10_joiner_5 := dk_seg dksX10_joiner_4 24 rfl rfl
theorem dksX10_joiner_6 : cX10_joiner.data.toList.drop 140 = dktX10_joiner_6 := dk_seg dksX10_joiner_5 22 rfl rfl
theorem dksX10_joiner_7 : cX10_joiner.data.toList.drop 164 = dktX10_joiner_7 := dk_seg dksX10_joiner_6 24 rfl rfl
theorem dksX10_joiner_8 : cX10_joiner.data.toList.drop 187 = dktX10_joiner_8 := dk_seg dksX10_joiner_7 23 rfl rfl
theorem dksX10_joiner_9 : cX10_joiner.data.toList.drop 211 = dktX10_joiner_9 := dk_seg dksX10_joiner_8 24 rfl rfl
theorem dksX10_joiner_10 : cX10_joiner.data.toList.drop 234 = dktX10_joiner_10 := dk_seg dksX10_joiner_9 23 rfl rfl
theorem dksX10_joiner_11 : cX10_joiner.data.toList.drop 258 = dktX10_joiner_11 := dk_seg dksX10_joiner_10 24 rfl rfl
theorem dksX10_joiner_12 : cX10_joiner.data.toList.drop 282 = dktX10_joiner_12 := dk_seg dksX10_joiner_11 24 rfl rfl
theorem dksX10_joiner_13 : cX10_joiner.data.toList.drop 306 = dktX10_joiner_13 := dk_seg dksX10_joiner_12 24 rfl rfl
theorem dksX10_joiner_14 : cX10_joiner.data.toList.drop 330 = dktX10_joiner_14 := dk_seg dksX10_joiner_13 24 rfl rfl
theorem dX10_joiner_0 : decode cX10_joiner 0 = .ok (.aload_n 0, 1) := dk_42 (dk_at dksX10_joiner_0 0 rfl rfl)
theorem dX10_joiner_1 : decode cX10_joiner 1 = .ok (.iconst 0, 1) := dk_3 (dk_at dksX10_joiner_0 1 rfl rfl)
theorem dX10_joiner_2 : decode cX10_joiner 2 = .ok (.putfield 108, 3) := dk_181 0 108 (dk_at dksX10_joiner_0 2 rfl rfl)
theorem dX10_joiner_5 : decode cX10_joiner 5 = .ok (.aload_n 0, 1) := dk_42 (dk_at dksX10_joiner_0 5 rfl rfl)
theorem dX10_joiner_6 : decode cX10_joiner 6 = .ok (.iconst 1, 1) := dk_4 (dk_at dksX10_joiner_0 6 rfl rfl)
theorem dX10_joiner_7 : decode cX10_joiner 7 = .ok (.invokevirtual 320, 3) := dk_182 1 64 (dk_at dksX10_joiner_0 7 rfl rfl)
theorem dX10_joiner_10 : decode cX10_joiner 10 = .ok (.iconst (-1), 1) := dk_2 (dk_at dksX10_joiner_0 10 rfl rfl)
theorem dX10_joiner_11 : decode cX10_joiner 11 = .ok (.if_icmp .ne 5, 3) := dk_160 0 5 (dk_at dksX10_joiner_0 11 rfl rfl)
theorem dX10_joiner_14 : decode cX10_joiner 14 = .ok (.iconst (-1), 1) := dk_2 (dk_at dksX10_joiner_0 14 rfl rfl)
theorem dX10_joiner_15 : decode cX10_joiner 15 = .ok (.ireturn, 1) := dk_172 (dk_at dksX10_joiner_0 15 rfl rfl)
theorem dX10_joiner_16 : decode cX10_joiner 16 = .ok (.iconst 0, 1) := dk_3 (dk_at dksX10_joiner_0 16 rfl rfl)
theorem dX10_joiner_17 : decode cX10_joiner 17 = .ok (.istore_n 1, 1) := dk_60 (dk_at dksX10_joiner_0 17 rfl rfl)
theorem dX10_joiner_18 : decode cX10_joiner 18 = .ok (.iconst 0, 1) := dk_3 (dk_at dksX10_joiner_0 18 rfl rfl)
theorem dX10_joiner_19 : decode cX10_joiner 19 = .ok (.istore_n 2, 1) := dk_61 (dk_at dksX10_joiner_0 19 rfl rfl)
theorem dX10_joiner_20 : decode cX10_joiner 20 = .ok (.iload_n 2, 1) := dk_28 (dk_at dksX10_joiner_0 20 rfl rfl)
theorem dX10_joiner_21 : decode cX10_joiner 21 = .ok (.aload_n 0, 1) := dk_42 (dk_at dksX10_joiner_0 21 rfl rfl)
theorem dX10_joiner_22 : decode cX10_joiner 22 = .ok (.invokevirtual 211, 3) := dk_182 0 211 (dk_at dksX10_joiner_1 0 rfl rfl)
theorem dX10_joiner_25 : decode cX10_joiner 25 = .ok (.if_icmp .ge 30, 3) := dk_162 0 30 (dk_at dksX10_joiner_1 3 rfl rfl)
theorem dX10_joiner_28 : decode cX10_joiner 28 = .ok (.aload_n 0, 1) := dk_42 (dk_at dksX10_joiner_1 6 rfl rfl)
theorem dX10_joiner_29 : decode cX10_joiner 29 = .ok (.getfield 57, 3) := dk_180 0 57 (dk_at dksX10_joiner_1 7 rfl rfl)
theorem dX10_joiner_32 : decode cX10_joiner 32 = .ok (.iload_n 2, 1) := dk_28 (dk_at dksX10_joiner_1 10 rfl rfl)
theorem dX10_joiner_33 : decode cX10_joiner 33 = .ok (.iaload, 1) := dk_46 (dk_at dksX10_joiner_1 11 rfl rfl)
theorem dX10_joiner_34 : decode cX10_joiner 34 = .ok (.aload_n 0, 1) := dk_42 (dk_at dksX10_joiner_1 12 rfl rfl)
theorem dX10_joiner_35 : decode cX10_joiner 35 = .ok (.iload_n 2, 1) := dk_28 (dk_at dksX10_joiner_1 13 rfl rfl)
theorem dX10_joiner_36 : decode cX10_joiner 36 = .ok (.iconst 4, 1) := dk_7 (dk_at dksX10_joiner_1 14 rfl rfl)
theorem dX10_joiner_37 : decode cX10_joiner 37 = .ok (.invokevirtual 267, 3) := dk_182 1 11 (dk_at dksX10_joiner_1 15 rfl rfl)
theorem dX10_joiner_40 : decode cX10_joiner 40 = .ok (.if_icmp .eq 9, 3) := dk_159 0 9 (dk_at dksX10_joiner_1 18 rfl rfl)
theorem dX10_joiner_43 : decode cX10_joiner 43 = .ok (.iload_n 1, 1) := dk_27 (dk_at dksX10_joiner_1 21 rfl rfl)
theorem dX10_joiner_44 : decode cX10_joiner 44 = .ok (.iconst 1, 1) := dk_4 (dk_at dksX10_joiner_1 22 rfl rfl)
theorem dX10_joiner_45 : decode cX10_joiner 45 = .ok (.iload_n 2, 1) := dk_28 (dk_at dksX10_joiner_1 23 rfl rfl)
theorem dX10_joiner_46 : decode cX10_joiner 46 = .ok (.ishl, 1) := dk_120 (dk_at dksX10_joiner_2 0 rfl rfl)
theorem dX10_joiner_47 : decode cX10_joiner 47 = .ok (.ior, 1) := dk_128 (dk_at dksX10_joiner_2 1 rfl rfl)
theorem dX10_joiner_48 : decode cX10_joiner 48 = .ok (.istore_n 1, 1) := dk_60 (dk_at dksX10_joiner_2 2 rfl rfl)
theorem dX10_joiner_49 : decode cX10_joiner 49 = .ok (.iinc 2 1, 3) := dk_132 2 1 (dk_at dksX10_joiner_2 3 rfl rfl)
theorem dX10_joiner_52 : decode cX10_joiner 52 = .ok (.goto (-32), 3) := dk_167 255 224 (dk_at dksX10_joiner_2 6 rfl rfl)
theorem dX10_joiner_55 : decode cX10_joiner 55 = .ok (.iconst 1, 1) := dk_4 (dk_at dksX10_joiner_2 9 rfl rfl)
theorem dX10_joiner_56 : decode cX10_joiner 56 = .ok (.aload_n 0, 1) := dk_42 (dk_at dksX10_joiner_2 10 rfl rfl)
theorem dX10_joiner_57 : decode cX10_joiner 57 = .ok (.invokevirtual 211, 3) := dk_182 0 211 (dk_at dksX10_joiner_2 11 rfl rfl)
theorem dX10_joiner_60 : decode cX10_joiner 60 = .ok (.ishl, 1) := dk_120 (dk_at dksX10_joiner_2 14 rfl rfl)
theorem dX10_joiner_61 : decode cX10_joiner 61 = .ok (.iconst 1, 1) := dk_4 (dk_at dksX10_joiner_2 15 rfl rfl)
theorem dX10_joiner_62 : decode cX10_joiner 62 = .ok (.isub, 1) := dk_100 (dk_at dksX10_joiner_2 16 rfl rfl)
theorem dX10_joiner_63 : decode cX10_joiner 63 = .ok (.istore_n 2, 1) := dk_61 (dk_at dksX10_joiner_2 17 rfl rfl)
theorem dX10_joiner_64 : decode cX10_joiner 64 = .ok (.iload_n 2, 1) := dk_28 (dk_at dksX10_joiner_2 18 rfl rfl)
theorem dX10_joiner_65 : decode cX10_joiner 65 = .ok (.ifCond .lt 181, 3) := dk_155 0 181 (dk_at dksX10_joiner_2 19 rfl rfl)
theorem dX10_joiner_68 : decode cX10_joiner 68 = .ok (.iload_n 2, 1) := dk_28 (dk_at dksX10_joiner_2 22 rfl rfl)
theorem dX10_joiner_69 : decode cX10_joiner 69 = .ok (.iload_n 1, 1) := dk_27 (dk_at dksX10_joiner_2 23 rfl rfl)
theorem dX10_joiner_70 : decode cX10_joiner 70 = .ok (.iconst (-1), 1) := dk_2 (dk_at dksX10_joiner_3 0 rfl rfl)
theorem dX10_joiner_71 : decode cX10_joiner 71 = .ok (.ixor, 1) := dk_130 (dk_at dksX10_joiner_3 1 rfl rfl)
theorem dX10_joiner_72 : decode cX10_joiner 72 = .ok (.iand, 1) := dk_126 (dk_at dksX10_joiner_3 2 rfl rfl)
theorem dX10_joiner_73 : decode cX10_joiner 73 = .ok (.ifCond .eq 6, 3) := dk_153 0 6 (dk_at dksX10_joiner_3 3 rfl rfl)
theorem dX10_joiner_76 : decode cX10_joiner 76 = .ok (.goto 164, 3) := dk_167 0 164 (dk_at dksX10_joiner_3 6 rfl rfl)
theorem dX10_joiner_79 : decode cX10_joiner 79 = .ok (.iconst 0, 1) := dk_3 (dk_at dksX10_joiner_3 9 rfl rfl)
theorem dX10_joiner_80 : decode cX10_joiner 80 = .ok (.istore_n 3, 1) := dk_62 (dk_at dksX10_joiner_3 10 rfl rfl)
theorem dX10_joiner_81 : decode cX10_joiner 81 = .ok (.iload_n 3, 1) := dk_29 (dk_at dksX10_joiner_3 11 rfl rfl)
theorem dX10_joiner_82 : decode cX10_joiner 82 = .ok (.aload_n 0, 1) := dk_42 (dk_at dksX10_joiner_3 12 rfl rfl)
theorem dX10_joiner_83 : decode cX10_joiner 83 = .ok (.invokevirtual 211, 3) := dk_182 0 211 (dk_at dksX10_joiner_3 13 rfl rfl)
theorem dX10_joiner_86 : decode cX10_joiner 86 = .ok (.if_icmp .ge 38, 3) := dk_162 0 38 (dk_at dksX10_joiner_3 16 rfl rfl)
theorem dX10_joiner_89 : decode cX10_joiner 89 = .ok (.aload_n 0, 1) := dk_42 (dk_at dksX10_joiner_3 19 rfl rfl)
theorem dX10_joiner_90 : decode cX10_joiner 90 = .ok (.getfield 54, 3) := dk_180 0 54 (dk_at dksX10_joiner_3 20 rfl rfl)
theorem dX10_joiner_93 : decode cX10_joiner 93 = .ok (.iload_n 3, 1) := dk_29 (dk_at dksX10_joiner_3 23 rfl rfl)
theorem dX10_joiner_94 : decode cX10_joiner 94 = .ok (.iload_n 2, 1) := dk_28 (dk_at dksX10_joiner_4 0 rfl rfl)
theorem dX10_joiner_95 : decode cX10_joiner 95 = .ok (.iload_n 3, 1) := dk_29 (dk_at dksX10_joiner_4 1 rfl rfl)
theorem dX10_joiner_96 : decode cX10_joiner 96 = .ok (.invokestatic 231, 3) := dk_184 0 231 (dk_at dksX10_joiner_4 2 rfl rfl)
theorem dX10_joiner_99 : decode cX10_joiner 99 = .ok (.ifCond .eq 12, 3) := dk_153 0 12 (dk_at dksX10_joiner_4 5 rfl rfl)
theorem dX10_joiner_102 : decode cX10_joiner 102 = .ok (.aload_n 0, 1) := dk_42 (dk_at dksX10_joiner_4 8 rfl rfl)
theorem dX10_joiner_103 : decode cX10_joiner 103 = .ok (.getfield 57, 3) := dk_180 0 57 (dk_at dksX10_joiner_4 9 rfl rfl)
theorem dX10_joiner_106 : decode cX10_joiner 106 = .ok (.iload_n 3, 1) := dk_29 (dk_at dksX10_joiner_4 12 rfl rfl)
theorem dX10_joiner_107 : decode cX10_joiner 107 = .ok (.iaload, 1) := dk_46 (dk_at dksX10_joiner_4 13 rfl rfl)
theorem dX10_joiner_108 : decode cX10_joiner 108 = .ok (.goto 9, 3) := dk_167 0 9 (dk_at dksX10_joiner_4 14 rfl rfl)
theorem dX10_joiner_111 : decode cX10_joiner 111 = .ok (.aload_n 0, 1) := dk_42 (dk_at dksX10_joiner_4 17 rfl rfl)
theorem dX10_joiner_112 : decode cX10_joiner 112 = .ok (.iload_n 3, 1) := dk_29 (dk_at dksX10_joiner_4 18 rfl rfl)
theorem dX10_joiner_113 : decode cX10_joiner 113 = .ok (.iconst 4, 1) := dk_7 (dk_at dksX10_joiner_4 19 rfl rfl)
theorem dX10_joiner_114 : decode cX10_joiner 114 = .ok (.invokevirtual 267, 3) := dk_182 1 11 (dk_at dksX10_joiner_4 20 rfl rfl)
theorem dX10_joiner_117 : decode cX10_joiner 117 = .ok (.iastore, 1) := dk_79 (dk_at dksX10_joiner_4 23 rfl rfl)
theorem dX10_joiner_118 : decode cX10_joiner 118 = .ok (.iinc 3 1, 3) := dk_132 3 1 (dk_at dksX10_joiner_5 0 rfl rfl)
theorem dX10_joiner_121 : decode cX10_joiner 121 = .ok (.goto (-40), 3) := dk_167 255 216 (dk_at dksX10_joiner_5 3 rfl rfl)
theorem dX10_joiner_124 : decode cX10_joiner 124 = .ok (.aload_n 0, 1) := dk_42 (dk_at dksX10_joiner_5 6 rfl rfl)
theorem dX10_joiner_125 : decode cX10_joiner 125 = .ok (.getfield 69, 3) := dk_180 0 69 (dk_at dksX10_joiner_5 7 rfl rfl)
theorem dX10_joiner_128 : decode cX10_joiner 128 = .ok (.iload_n 2, 1) := dk_28 (dk_at dksX10_joiner_5 10 rfl rfl)
theorem dX10_joiner_129 : decode cX10_joiner 129 = .ok (.aload_n 0, 1) := dk_42 (dk_at dksX10_joiner_5 11 rfl rfl)
theorem dX10_joiner_130 : decode cX10_joiner 130 = .ok (.aload_n 0, 1) := dk_42 (dk_at dksX10_joiner_5 12 rfl rfl)
theorem dX10_joiner_131 : decode cX10_joiner 131 = .ok (.getfield 54, 3) := dk_180 0 54 (dk_at dksX10_joiner_5 13 rfl rfl)
theorem dX10_joiner_134 : decode cX10_joiner 134 = .ok (.invokevirtual 302, 3) := dk_182 1 46 (dk_at dksX10_joiner_5 16 rfl rfl)
theorem dX10_joiner_137 : decode cX10_joiner 137 = .ok (.iastore, 1) := dk_79 (dk_at dksX10_joiner_5 19 rfl rfl)
theorem dX10_joiner_138 : decode cX10_joiner 138 = .ok (.iload_n 2, 1) := dk_28 (dk_at dksX10_joiner_5 20 rfl rfl)
theorem dX10_joiner_139 : decode cX10_joiner 139 = .ok (.iload_n 1, 1) := dk_27 (dk_at dksX10_joiner_5 21 rfl rfl)
theorem dX10_joiner_140 : decode cX10_joiner 140 = .ok (.if_icmp .ne 7, 3) := dk_160 0 7 (dk_at dksX10_joiner_6 0 rfl rfl)
theorem dX10_joiner_143 : decode cX10_joiner 143 = .ok (.iconst 0, 1) := dk_3 (dk_at dksX10_joiner_6 3 rfl rfl)
theorem dX10_joiner_144 : decode cX10_joiner 144 = .ok (.goto 6, 3) := dk_167 0 6 (dk_at dksX10_joiner_6 4 rfl rfl)
theorem dX10_joiner_147 : decode cX10_joiner 147 = .ok (.sipush 1000, 3) := dk_17 3 232 (dk_at dksX10_joiner_6 7 rfl rfl)
theorem dX10_joiner_150 : decode cX10_joiner 150 = .ok (.istore_n 3, 1) := dk_62 (dk_at dksX10_joiner_6 10 rfl rfl)
theorem dX10_joiner_151 : decode cX10_joiner 151 = .ok (.iconst 0, 1) := dk_3 (dk_at dksX10_joiner_6 11 rfl rfl)
theorem dX10_joiner_152 : decode cX10_joiner 152 = .ok (.istore 4, 2) := dk_54 4 (dk_at dksX10_joiner_6 12 rfl rfl)
theorem dX10_joiner_154 : decode cX10_joiner 154 = .ok (.iload 4, 2) := dk_21 4 (dk_at dksX10_joiner_6 14 rfl rfl)
theorem dX10_joiner_156 : decode cX10_joiner 156 = .ok (.aload_n 0, 1) := dk_42 (dk_at dksX10_joiner_6 16 rfl rfl)
theorem dX10_joiner_157 : decode cX10_joiner 157 = .ok (.invokevirtual 211, 3) := dk_182 0 211 (dk_at dksX10_joiner_6 17 rfl rfl)
theorem dX10_joiner_160 : decode cX10_joiner 160 = .ok (.if_icmp .ge 54, 3) := dk_162 0 54 (dk_at dksX10_joiner_6 20 rfl rfl)
theorem dX10_joiner_163 : decode cX10_joiner 163 = .ok (.iload_n 1, 1) := dk_27 (dk_at dksX10_joiner_6 23 rfl rfl)
theorem dX10_joiner_164 : decode cX10_joiner 164 = .ok (.iload 4, 2) := dk_21 4 (dk_at dksX10_joiner_7 0 rfl rfl)
theorem dX10_joiner_166 : decode cX10_joiner 166 = .ok (.invokestatic 231, 3) := dk_184 0 231 (dk_at dksX10_joiner_7 2 rfl rfl)
theorem dX10_joiner_169 : decode cX10_joiner 169 = .ok (.ifCond .eq 39, 3) := dk_153 0 39 (dk_at dksX10_joiner_7 5 rfl rfl)
theorem dX10_joiner_172 : decode cX10_joiner 172 = .ok (.iload_n 2, 1) := dk_28 (dk_at dksX10_joiner_7 8 rfl rfl)
theorem dX10_joiner_173 : decode cX10_joiner 173 = .ok (.iload 4, 2) := dk_21 4 (dk_at dksX10_joiner_7 9 rfl rfl)
theorem dX10_joiner_175 : decode cX10_joiner 175 = .ok (.invokestatic 231, 3) := dk_184 0 231 (dk_at dksX10_joiner_7 11 rfl rfl)
theorem dX10_joiner_178 : decode cX10_joiner 178 = .ok (.ifCond .ne 30, 3) := dk_154 0 30 (dk_at dksX10_joiner_7 14 rfl rfl)
theorem dX10_joiner_181 : decode cX10_joiner 181 = .ok (.aload_n 0, 1) := dk_42 (dk_at dksX10_joiner_7 17 rfl rfl)
theorem dX10_joiner_182 : decode cX10_joiner 182 = .ok (.getfield 72, 3) := dk_180 0 72 (dk_at dksX10_joiner_7 18 rfl rfl)
theorem dX10_joiner_185 : decode cX10_joiner 185 = .ok (.iload_n 2, 1) := dk_28 (dk_at dksX10_joiner_7 21 rfl rfl)
theorem dX10_joiner_186 : decode cX10_joiner 186 = .ok (.iconst 1, 1) := dk_4 (dk_at dksX10_joiner_7 22 rfl rfl)
theorem dX10_joiner_187 : decode cX10_joiner 187 = .ok (.iload 4, 2) := dk_21 4 (dk_at dksX10_joiner_8 0 rfl rfl)
theorem dX10_joiner_189 : decode cX10_joiner 189 = .ok (.ishl, 1) := dk_120 (dk_at dksX10_joiner_8 2 rfl rfl)
theorem dX10_joiner_190 : decode cX10_joiner 190 = .ok (.ior, 1) := dk_128 (dk_at dksX10_joiner_8 3 rfl rfl)
theorem dX10_joiner_191 : decode cX10_joiner 191 = .ok (.iaload, 1) := dk_46 (dk_at dksX10_joiner_8 4 rfl rfl)
theorem dX10_joiner_192 : decode cX10_joiner 192 = .ok (.iload_n 3, 1) := dk_29 (dk_at dksX10_joiner_8 5 rfl rfl)
theorem dX10_joiner_193 : decode cX10_joiner 193 = .ok (.if_icmp .ge 15, 3) := dk_162 0 15 (dk_at dksX10_joiner_8 6 rfl rfl)
theorem dX10_joiner_196 : decode cX10_joiner 196 = .ok (.aload_n 0, 1) := dk_42 (dk_at dksX10_joiner_8 9 rfl rfl)
theorem dX10_joiner_197 : decode cX10_joiner 197 = .ok (.getfield 72, 3) := dk_180 0 72 (dk_at dksX10_joiner_8 10 rfl rfl)
theorem dX10_joiner_200 : decode cX10_joiner 200 = .ok (.iload_n 2, 1) := dk_28 (dk_at dksX10_joiner_8 13 rfl rfl)
theorem dX10_joiner_201 : decode cX10_joiner 201 = .ok (.iconst 1, 1) := dk_4 (dk_at dksX10_joiner_8 14 rfl rfl)
theorem dX10_joiner_202 : decode cX10_joiner 202 = .ok (.iload 4, 2) := dk_21 4 (dk_at dksX10_joiner_8 15 rfl rfl)
theorem dX10_joiner_204 : decode cX10_joiner 204 = .ok (.ishl, 1) := dk_120 (dk_at dksX10_joiner_8 17 rfl rfl)
theorem dX10_joiner_205 : decode cX10_joiner 205 = .ok (.ior, 1) := dk_128 (dk_at dksX10_joiner_8 18 rfl rfl)
theorem dX10_joiner_206 : decode cX10_joiner 206 = .ok (.iaload, 1) := dk_46 (dk_at dksX10_joiner_8 19 rfl rfl)
theorem dX10_joiner_207 : decode cX10_joiner 207 = .ok (.istore_n 3, 1) := dk_62 (dk_at dksX10_joiner_8 20 rfl rfl)
theorem dX10_joiner_208 : decode cX10_joiner 208 = .ok (.iinc 4 1, 3) := dk_132 4 1 (dk_at dksX10_joiner_8 21 rfl rfl)
theorem dX10_joiner_211 : decode cX10_joiner 211 = .ok (.goto (-57), 3) := dk_167 255 199 (dk_at dksX10_joiner_9 0 rfl rfl)
theorem dX10_joiner_214 : decode cX10_joiner 214 = .ok (.aload_n 0, 1) := dk_42 (dk_at dksX10_joiner_9 3 rfl rfl)
theorem dX10_joiner_215 : decode cX10_joiner 215 = .ok (.getfield 72, 3) := dk_180 0 72 (dk_at dksX10_joiner_9 4 rfl rfl)
theorem dX10_joiner_218 : decode cX10_joiner 218 = .ok (.iload_n 2, 1) := dk_28 (dk_at dksX10_joiner_9 7 rfl rfl)
theorem dX10_joiner_219 : decode cX10_joiner 219 = .ok (.iload_n 3, 1) := dk_29 (dk_at dksX10_joiner_9 8 rfl rfl)
theorem dX10_joiner_220 : decode cX10_joiner 220 = .ok (.aload_n 0, 1) := dk_42 (dk_at dksX10_joiner_9 9 rfl rfl)
theorem dX10_joiner_221 : decode cX10_joiner 221 = .ok (.getfield 69, 3) := dk_180 0 69 (dk_at dksX10_joiner_9 10 rfl rfl)
theorem dX10_joiner_224 : decode cX10_joiner 224 = .ok (.iload_n 2, 1) := dk_28 (dk_at dksX10_joiner_9 13 rfl rfl)
theorem dX10_joiner_225 : decode cX10_joiner 225 = .ok (.iaload, 1) := dk_46 (dk_at dksX10_joiner_9 14 rfl rfl)
theorem dX10_joiner_226 : decode cX10_joiner 226 = .ok (.if_icmp .le 7, 3) := dk_164 0 7 (dk_at dksX10_joiner_9 15 rfl rfl)
theorem dX10_joiner_229 : decode cX10_joiner 229 = .ok (.iload_n 3, 1) := dk_29 (dk_at dksX10_joiner_9 18 rfl rfl)
theorem dX10_joiner_230 : decode cX10_joiner 230 = .ok (.goto 9, 3) := dk_167 0 9 (dk_at dksX10_joiner_9 19 rfl rfl)
theorem dX10_joiner_233 : decode cX10_joiner 233 = .ok (.aload_n 0, 1) := dk_42 (dk_at dksX10_joiner_9 22 rfl rfl)
theorem dX10_joiner_234 : decode cX10_joiner 234 = .ok (.getfield 69, 3) := dk_180 0 69 (dk_at dksX10_joiner_10 0 rfl rfl)
theorem dX10_joiner_237 : decode cX10_joiner 237 = .ok (.iload_n 2, 1) := dk_28 (dk_at dksX10_joiner_10 3 rfl rfl)
theorem dX10_joiner_238 : decode cX10_joiner 238 = .ok (.iaload, 1) := dk_46 (dk_at dksX10_joiner_10 4 rfl rfl)
theorem dX10_joiner_239 : decode cX10_joiner 239 = .ok (.iastore, 1) := dk_79 (dk_at dksX10_joiner_10 5 rfl rfl)
theorem dX10_joiner_240 : decode cX10_joiner 240 = .ok (.iinc 2 (-1), 3) := dk_132 2 255 (dk_at dksX10_joiner_10 6 rfl rfl)
theorem dX10_joiner_243 : decode cX10_joiner 243 = .ok (.goto (-179), 3) := dk_167 255 77 (dk_at dksX10_joiner_10 9 rfl rfl)
theorem dX10_joiner_246 : decode cX10_joiner 246 = .ok (.aload_n 0, 1) := dk_42 (dk_at dksX10_joiner_10 12 rfl rfl)
theorem dX10_joiner_247 : decode cX10_joiner 247 = .ok (.iconst 0, 1) := dk_3 (dk_at dksX10_joiner_10 13 rfl rfl)
theorem dX10_joiner_248 : decode cX10_joiner 248 = .ok (.putfield 351, 3) := dk_181 1 95 (dk_at dksX10_joiner_10 14 rfl rfl)
theorem dX10_joiner_251 : decode cX10_joiner 251 = .ok (.iconst 0, 1) := dk_3 (dk_at dksX10_joiner_10 17 rfl rfl)
theorem dX10_joiner_252 : decode cX10_joiner 252 = .ok (.istore_n 2, 1) := dk_61 (dk_at dksX10_joiner_10 18 rfl rfl)
theorem dX10_joiner_253 : decode cX10_joiner 253 = .ok (.iload_n 2, 1) := dk_28 (dk_at dksX10_joiner_10 19 rfl rfl)
theorem dX10_joiner_254 : decode cX10_joiner 254 = .ok (.iload_n 1, 1) := dk_27 (dk_at dksX10_joiner_10 20 rfl rfl)
theorem dX10_joiner_255 : decode cX10_joiner 255 = .ok (.if_icmp .eq 75, 3) := dk_159 0 75 (dk_at dksX10_joiner_10 21 rfl rfl)
theorem dX10_joiner_258 : decode cX10_joiner 258 = .ok (.iconst 0, 1) := dk_3 (dk_at dksX10_joiner_11 0 rfl rfl)
theorem dX10_joiner_259 : decode cX10_joiner 259 = .ok (.istore_n 3, 1) := dk_62 (dk_at dksX10_joiner_11 1 rfl rfl)
theorem dX10_joiner_260 : decode cX10_joiner 260 = .ok (.iload_n 1, 1) := dk_27 (dk_at dksX10_joiner_11 2 rfl rfl)
theorem dX10_joiner_261 : decode cX10_joiner 261 = .ok (.iload_n 3, 1) := dk_29 (dk_at dksX10_joiner_11 3 rfl rfl)
theorem dX10_joiner_262 : decode cX10_joiner 262 = .ok (.invokestatic 231, 3) := dk_184 0 231 (dk_at dksX10_joiner_11 4 rfl rfl)
theorem dX10_joiner_265 : decode cX10_joiner 265 = .ok (.ifCond .eq 30, 3) := dk_153 0 30 (dk_at dksX10_joiner_11 7 rfl rfl)
theorem dX10_joiner_268 : decode cX10_joiner 268 = .ok (.iload_n 2, 1) := dk_28 (dk_at dksX10_joiner_11 10 rfl rfl)
theorem dX10_joiner_269 : decode cX10_joiner 269 = .ok (.iload_n 3, 1) := dk_29 (dk_at dksX10_joiner_11 11 rfl rfl)
theorem dX10_joiner_270 : decode cX10_joiner 270 = .ok (.invokestatic 231, 3) := dk_184 0 231 (dk_at dksX10_joiner_11 12 rfl rfl)
theorem dX10_joiner_273 : decode cX10_joiner 273 = .ok (.ifCond .ne 22, 3) := dk_154 0 22 (dk_at dksX10_joiner_11 15 rfl rfl)
theorem dX10_joiner_276 : decode cX10_joiner 276 = .ok (.aload_n 0, 1) := dk_42 (dk_at dksX10_joiner_11 18 rfl rfl)
theorem dX10_joiner_277 : decode cX10_joiner 277 = .ok (.getfield 72, 3) := dk_180 0 72 (dk_at dksX10_joiner_11 19 rfl rfl)
theorem dX10_joiner_280 : decode cX10_joiner 280 = .ok (.iload_n 2, 1) := dk_28 (dk_at dksX10_joiner_11 22 rfl rfl)
theorem dX10_joiner_281 : decode cX10_joiner 281 = .ok (.iconst 1, 1) := dk_4 (dk_at dksX10_joiner_11 23 rfl rfl)
theorem dX10_joiner_282 : decode cX10_joiner 282 = .ok (.iload_n 3, 1) := dk_29 (dk_at dksX10_joiner_12 0 rfl rfl)
theorem dX10_joiner_283 : decode cX10_joiner 283 = .ok (.ishl, 1) := dk_120 (dk_at dksX10_joiner_12 1 rfl rfl)
theorem dX10_joiner_284 : decode cX10_joiner 284 = .ok (.ior, 1) := dk_128 (dk_at dksX10_joiner_12 2 rfl rfl)
theorem dX10_joiner_285 : decode cX10_joiner 285 = .ok (.iaload, 1) := dk_46 (dk_at dksX10_joiner_12 3 rfl rfl)
theorem dX10_joiner_286 : decode cX10_joiner 286 = .ok (.aload_n 0, 1) := dk_42 (dk_at dksX10_joiner_12 4 rfl rfl)
theorem dX10_joiner_287 : decode cX10_joiner 287 = .ok (.getfield 72, 3) := dk_180 0 72 (dk_at dksX10_joiner_12 5 rfl rfl)
theorem dX10_joiner_290 : decode cX10_joiner 290 = .ok (.iconst 0, 1) := dk_3 (dk_at dksX10_joiner_12 8 rfl rfl)
theorem dX10_joiner_291 : decode cX10_joiner 291 = .ok (.iaload, 1) := dk_46 (dk_at dksX10_joiner_12 9 rfl rfl)
theorem dX10_joiner_292 : decode cX10_joiner 292 = .ok (.if_icmp .le 9, 3) := dk_164 0 9 (dk_at dksX10_joiner_12 10 rfl rfl)
theorem dX10_joiner_295 : decode cX10_joiner 295 = .ok (.iinc 3 1, 3) := dk_132 3 1 (dk_at dksX10_joiner_12 13 rfl rfl)
theorem dX10_joiner_298 : decode cX10_joiner 298 = .ok (.goto (-38), 3) := dk_167 255 218 (dk_at dksX10_joiner_12 16 rfl rfl)
theorem dX10_joiner_301 : decode cX10_joiner 301 = .ok (.aload_n 0, 1) := dk_42 (dk_at dksX10_joiner_12 19 rfl rfl)
theorem dX10_joiner_302 : decode cX10_joiner 302 = .ok (.getfield 75, 3) := dk_180 0 75 (dk_at dksX10_joiner_12 20 rfl rfl)
theorem dX10_joiner_305 : decode cX10_joiner 305 = .ok (.aload_n 0, 1) := dk_42 (dk_at dksX10_joiner_12 23 rfl rfl)
theorem dX10_joiner_306 : decode cX10_joiner 306 = .ok (.getfield 351, 3) := dk_180 1 95 (dk_at dksX10_joiner_13 0 rfl rfl)
theorem dX10_joiner_309 : decode cX10_joiner 309 = .ok (.iload_n 3, 1) := dk_29 (dk_at dksX10_joiner_13 3 rfl rfl)
theorem dX10_joiner_310 : decode cX10_joiner 310 = .ok (.iastore, 1) := dk_79 (dk_at dksX10_joiner_13 4 rfl rfl)
theorem dX10_joiner_311 : decode cX10_joiner 311 = .ok (.aload_n 0, 1) := dk_42 (dk_at dksX10_joiner_13 5 rfl rfl)
theorem dX10_joiner_312 : decode cX10_joiner 312 = .ok (.dup, 1) := dk_89 (dk_at dksX10_joiner_13 6 rfl rfl)
theorem dX10_joiner_313 : decode cX10_joiner 313 = .ok (.getfield 351, 3) := dk_180 1 95 (dk_at dksX10_joiner_13 7 rfl rfl)
theorem dX10_joiner_316 : decode cX10_joiner 316 = .ok (.iconst 1, 1) := dk_4 (dk_at dksX10_joiner_13 10 rfl rfl)
theorem dX10_joiner_317 : decode cX10_joiner 317 = .ok (.iadd, 1) := dk_96 (dk_at dksX10_joiner_13 11 rfl rfl)
theorem dX10_joiner_318 : decode cX10_joiner 318 = .ok (.putfield 351, 3) := dk_181 1 95 (dk_at dksX10_joiner_13 12 rfl rfl)
theorem dX10_joiner_321 : decode cX10_joiner 321 = .ok (.iload_n 2, 1) := dk_28 (dk_at dksX10_joiner_13 15 rfl rfl)
theorem dX10_joiner_322 : decode cX10_joiner 322 = .ok (.iconst 1, 1) := dk_4 (dk_at dksX10_joiner_13 16 rfl rfl)
theorem dX10_joiner_323 : decode cX10_joiner 323 = .ok (.iload_n 3, 1) := dk_29 (dk_at dksX10_joiner_13 17 rfl rfl)
theorem dX10_joiner_324 : decode cX10_joiner 324 = .ok (.ishl, 1) := dk_120 (dk_at dksX10_joiner_13 18 rfl rfl)
theorem dX10_joiner_325 : decode cX10_joiner 325 = .ok (.ior, 1) := dk_128 (dk_at dksX10_joiner_13 19 rfl rfl)
theorem dX10_joiner_326 : decode cX10_joiner 326 = .ok (.istore_n 2, 1) := dk_61 (dk_at dksX10_joiner_13 20 rfl rfl)
theorem dX10_joiner_327 : decode cX10_joiner 327 = .ok (.goto (-74), 3) := dk_167 255 182 (dk_at dksX10_joiner_13 21 rfl rfl)
theorem dX10_joiner_330 : decode cX10_joiner 330 = .ok (.aload_n 0, 1) := dk_42 (dk_at dksX10_joiner_14 0 rfl rfl)
theorem dX10_joiner_331 : decode cX10_joiner 331 = .ok (.getfield 72, 3) := dk_180 0 72 (dk_at dksX10_joiner_14 1 rfl rfl)
theorem dX10_joiner_334 : decode cX10_joiner 334 = .ok (.iconst 0, 1) := dk_3 (dk_at dksX10_joiner_14 4 rfl rfl)
theorem dX10_joiner_335 : decode cX10_joiner 335 = .ok (.iaload, 1) := dk_46 (dk_at dksX10_joiner_14 5 rfl rfl)
theorem dX10_joiner_336 : decode cX10_joiner 336 = .ok (.ireturn, 1) := dk_172 (dk_at dksX10_joiner_14 6 rfl rfl)
theorem fl_X10_351 : gFl "BitingDoorsModel" 351 [8] 42 := by
  intro args s hts hN ci hc
  simp only [List.mem_cons, List.not_mem_nil, or_false] at hc
  subst hc
  exact ⟨RX10, TX10, 64, "BitingDoorsModel", gCl_X10, in_X10, by decide, Or.inl (hts _ q1692), fun _ h => h⟩
theorem fl_X10_69 : gFl "BitingDoorsModel" 69 [8] 39 := by
  intro args s hts hN ci hc
  simp only [List.mem_cons, List.not_mem_nil, or_false] at hc
  subst hc
  exact ⟨RX10, TX10, 64, "BitingDoorsModel", gCl_X10, in_X10, by decide, Or.inl (hts _ q1689), fun _ h => h⟩
theorem fl_X10_72 : gFl "BitingDoorsModel" 72 [8] 40 := by
  intro args s hts hN ci hc
  simp only [List.mem_cons, List.not_mem_nil, or_false] at hc
  subst hc
  exact ⟨RX10, TX10, 64, "BitingDoorsModel", gCl_X10, in_X10, by decide, Or.inl (hts _ q1690), fun _ h => h⟩
theorem fl_X10_75 : gFl "BitingDoorsModel" 75 [8] 41 := by
  intro args s hts hN ci hc
  simp only [List.mem_cons, List.not_mem_nil, or_false] at hc
  subst hc
  exact ⟨RX10, TX10, 64, "BitingDoorsModel", gCl_X10, in_X10, by decide, Or.inl (hts _ q1691), fun _ h => h⟩
theorem fp_X10_351 {nm : String} : gFp "BitingDoorsModel" nm 351 [8] 42 .int := by
  intro args s hts hN ci hc
  simp only [List.mem_cons, List.not_mem_nil, or_false] at hc
  subst hc
  exact ⟨RX10, TX10, 64, "BitingDoorsModel", gCl_X10, in_X10, by decide, Or.inl ⟨rfl, Or.inl (hts _ q1692)⟩, fun _ h => h, rfl, fun D tys hK => gap_X10 hts hK⟩
theorem dn_X10_joiner : yX10_joiner.cls ≠ "java/lang/invoke/MethodHandle" ∧ yX10_joiner.cls ≠ "java/lang/invoke/VarHandle" ∧ (parseMethodDescriptor yX10_joiner.desc).map (fun d => d.parameters.length) = some 0 := by decide +kernel
noncomputable def M_X10_joiner  : TM Int32 := TM.bind (sI 0 0) (fun _ => TM.bind (M_X10_hangAll true) (fun v1 => if v1 = (-1) then TM.pure (-1) else TM.bind (TM.loop (S := Int32 × Int32) (E := Int32) (fun s2 => TM.bind (M_X10_doors) (fun v6 => if v6 ≤ s2.2 then TM.pure (Sum.inr s2.1) else TM.bind (tA 31 10 s2.2) (fun v7 => TM.bind (M_X10_of s2.2 4) (fun v8 => TM.bind ((if v7 = v8 then TM.pure s2.1 else TM.lv (s2.1 ||| (1 <<< (s2.2 &&& 31))) (fun v11 => TM.pure v11) : TM (Int32))) (fun u9 => TM.lv (s2.2 + 1) (fun v10 => TM.pure (Sum.inl (u9, v10)))))))) (0, 0)) (fun e5 => TM.bind (M_X10_doors) (fun v12 => TM.lv ((1 <<< (v12 &&& 31)) - 1) (fun v13 => TM.bind (TM.loop (S := Int32) (E := Unit) (fun s14 => if s14 < 0 then TM.pure (Sum.inr ()) else TM.bind ((if (s14 &&& (e5 ^^^ (-1))) = 0 then TM.bind (TM.loop (S := Int32) (E := Unit) (fun s20 => TM.bind (M_X10_doors) (fun v24 => if v24 ≤ s20 then TM.pure (Sum.inr ()) else TM.bind (M_X10_has s14 s20) (fun v25 => TM.bind ((cond v25 (TM.bind (tA 31 10 s20) (fun v29 => TM.pure v29)) (TM.bind (M_X10_of s20 4) (fun v28 => TM.pure v28)) : TM (Int32))) (fun u26 => TM.bind (sA 30 10 s20 u26) (fun _ => TM.lv (s20 + 1) (fun v27 => TM.pure (Sum.inl v27))))))) 0) (fun e23 => TM.bind (M_X10_clashesOf) (fun v30 => TM.bind (sA 39 1024 s14 v30) (fun _ => TM.bind ((if s14 = e5 then TM.pure 0 else TM.pure 1000 : TM (Int32))) (fun u31 => TM.bind (TM.loop (S := Int32 × Int32) (E := Int32) (fun s32 => TM.bind (M_X10_doors) (fun v36 => if v36 ≤ s32.2 then TM.pure (Sum.inr s32.1) else TM.bind (M_X10_has e5 s32.2) (fun v37 => TM.bind ((cond v37 (TM.bind (M_X10_has s14 s32.2) (fun v40 => cond v40 (TM.pure s32.1) (TM.bind (tA 40 1024 (s14 ||| (1 <<< (s32.2 &&& 31)))) (fun v41 => if s32.1 ≤ v41 then TM.pure s32.1 else TM.bind (tA 40 1024 (s14 ||| (1 <<< (s32.2 &&& 31)))) (fun v42 => TM.pure v42))))) (TM.pure s32.1) : TM (Int32))) (fun u38 => TM.lv (s32.2 + 1) (fun v39 => TM.pure (Sum.inl (u38, v39))))))) (u31, 0)) (fun e35 => TM.bind (tA 39 1024 s14) (fun v43 => TM.bind ((if e35 ≤ v43 then TM.bind (tA 39 1024 s14) (fun v45 => TM.pure v45) else TM.pure e35 : TM (Int32))) (fun u44 => TM.bind (sA 40 1024 s14 u44) (fun _ => TM.pure ())))))))) else TM.pure () : TM (Unit))) (fun u18 => TM.lv (s14 + (-1)) (fun v19 => TM.pure (Sum.inl v19)))) v13) (fun e17 => TM.bind (sI 42 0) (fun _ => TM.bind (TM.loop (S := Int32) (E := Unit) (fun s46 => if s46 = e5 then TM.pure (Sum.inr ()) else TM.bind (TM.loop (S := Int32) (E := Int32) (fun s50 => TM.bind (M_X10_has e5 s50) (fun v54 => cond v54 (TM.bind (M_X10_has s46 s50) (fun v56 => cond v56 (TM.lv (s50 + 1) (fun v57 => TM.pure (Sum.inl v57))) (TM.bind (tA 40 1024 (s46 ||| (1 <<< (s50 &&& 31)))) (fun v58 => TM.bind (tA 40 1024 0) (fun v59 => if v58 ≤ v59 then TM.pure (Sum.inr s50) else TM.lv (s50 + 1) (fun v60 => TM.pure (Sum.inl v60))))))) (TM.lv (s50 + 1) (fun v55 => TM.pure (Sum.inl v55))))) 0) (fun e53 => TM.bind (tI 42) (fun v61 => TM.bind (sA 41 10 v61 e53) (fun _ => TM.bind (tI 42) (fun v62 => TM.bind (sI 42 (v62 + 1)) (fun _ => TM.lv (s46 ||| (1 <<< (e53 &&& 31))) (fun v63 => TM.pure (Sum.inl v63)))))))) 0) (fun e49 => TM.bind (tA 40 1024 0) (fun v64 => TM.pure v64)))))))))
set_option maxHeartbeats 4000000 in
theorem ct_X10_joiner (G : gG) (am : Nat)  : gCtM G am yX10_joiner cX10_joiner 5 (some .int) 16 381 [.ref am] (M_X10_joiner) (fun x : Int32 => some (.int x)) := by
  refine gCtM.of (by decide) (Nat.le_of_ble_eq_true rfl) (fun K hn ms ms' r hG X hK hd ho => ?_)
  subst hG
  have X : gX K cX10_joiner 5 "BitingDoorsModel" "joiner" (some .int) 16 381 := X
  show V K 5 (mkM am hn ms) 0 [(0, .ref am)] []
  unfold M_X10_joiner at hd
  refine v_aload_n X dX10_joiner_0 0 0 rfl rfl ?_
  refine v_iconst (v := 0) X dX10_joiner_1 (by decide) ?_
  refine t_putI X hd rfl fp_X10_108 dX10_joiner_2 (fun ms hd => ?_)
  refine v_aload_n X dX10_joiner_5 0 0 rfl rfl ?_
  refine v_iconst (v := 1) X dX10_joiner_6 (by decide) ?_
  refine t_callV X hK hd (ct_X10_hangAll _ am true) (lw_V q2057 q2059 qs68 q120 q2060) ⟨rfl, dn_X10_hangAll⟩ rfl ⟨by decide, by decide⟩ rfl (Nat.le_of_ble_eq_true rfl) dX10_joiner_7 (fun v1 ms hd => ?_)
  show V K 5 (mkM am hn ms) 10 [(0, .ref am)] [.int v1]
  refine v_iconst (v := (-1)) X dX10_joiner_10 (by decide) ?_
  refine v_icmp_ne (tgt := 16) X dX10_joiner_11 (by decide) (fun q => ?_) (fun q => ?_)
  · have hd := Tite_f q hd
    refine v_iconst (v := 0) X dX10_joiner_16 (by decide) ?_
    refine v_istore_n (lv2 := [(1, .int 0), (0, .ref am)]) X dX10_joiner_17 1 rfl (by decide) rfl ?_
    refine v_iconst (v := 0) X dX10_joiner_18 (by decide) ?_
    refine v_istore_n (lv2 := [(2, .int 0), (1, .int 0), (0, .ref am)]) X dX10_joiner_19 2 rfl (by decide) rfl ?_
    obtain ⟨e5, m1, hd, hd2⟩ := TM.bind_some hd
    have KX : V K 5 (mkM am hn m1) 55 [(0, .ref am), (1, .int e5)] [] := by
      clear hd
      have hd := hd2
      refine v_iconst (v := 1) X dX10_joiner_55 (by decide) ?_
      refine v_aload_n X dX10_joiner_56 0 0 rfl rfl ?_
      refine t_callV X hK hd (ct_X10_doors _ am) (lw_V q1986 q1988 qs57 q120 q1989) ⟨rfl, dn_X10_doors⟩ rfl ⟨by decide, by decide⟩ rfl (Nat.le_of_ble_eq_true rfl) dX10_joiner_57 (fun v12 ms hd => ?_)
      show V K 5 (mkM am hn ms) 60 [(0, .ref am), (1, .int e5)] [.int v12, .int 1]
      refine v_ishl X dX10_joiner_60 ?_
      refine v_iconst (v := 1) X dX10_joiner_61 (by decide) ?_
      refine v_isub X dX10_joiner_62 ?_
      refine t_lvI hd (fun v13 hd => ?_)
      refine v_istore_n (lv2 := [(2, .int v13), (0, .ref am), (1, .int e5)]) X dX10_joiner_63 2 rfl (by decide) rfl ?_
      obtain ⟨e17, m1, hd, hd2⟩ := TM.bind_some hd
      have KX : V K 5 (mkM am hn m1) 246 [(0, .ref am), (1, .int e5)] [] := by
        clear hd
        have hd := hd2
        refine v_aload_n X dX10_joiner_246 0 0 rfl rfl ?_
        refine v_iconst (v := 0) X dX10_joiner_247 (by decide) ?_
        refine t_putI X hd rfl fp_X10_351 dX10_joiner_248 (fun ms hd => ?_)
        refine v_iconst (v := 0) X dX10_joiner_251 (by decide) ?_
        refine v_istore_n (lv2 := [(2, .int 0), (0, .ref am), (1, .int e5)]) X dX10_joiner_252 2 rfl (by decide) rfl ?_
        obtain ⟨e49, m1, hd, hd2⟩ := TM.bind_some hd
        have KX : V K 5 (mkM am hn m1) 330 [(0, .ref am)] [] := by
          clear hd
          have hd := hd2
          refine v_aload_n X dX10_joiner_330 0 0 rfl rfl ?_
          refine t_getA (j := 20) X rfl fl_X10_72 dX10_joiner_331 ?_
          refine v_iconst (v := 0) X dX10_joiner_334 (by decide) ?_
          refine t_iald (j := 20) X hd rfl dX10_joiner_335 (fun v64 hd => ?_)
          exact t_iret X hK hd ho dX10_joiner_336
        clear hd2
        refine v_loc [1, 2, 0] rfl ?_
        refine Tloop_ind hd (fun (s46 : Int32) m => V K 5 (mkM am hn m) 253 [(0, .ref am), (1, .int e5), (2, .int s46)] []) (fun s46 ms x m2 hd ih47 ho48 => ?_)
        refine v_iload_n X dX10_joiner_253 2 2 rfl rfl ?_
        refine v_iload_n X dX10_joiner_254 1 1 rfl rfl ?_
        refine v_icmp_eq (tgt := 330) X dX10_joiner_255 (by decide) (fun q => ?_) (fun q => ?_)
        · have hd := Tite_t q hd
          exact v_loc [0] rfl (t_at (P := fun (e49 : Unit) m => V K 5 (mkM am hn m) 330 [(0, .ref am)] []) (Tlp_out hd ho48) KX)
        · have hd := Tite_f q hd
          refine v_iconst (v := 0) X dX10_joiner_258 (by decide) ?_
          refine v_istore_n (lv2 := [(3, .int 0), (0, .ref am), (1, .int e5), (2, .int s46)]) X dX10_joiner_259 3 rfl (by decide) rfl ?_
          obtain ⟨e53, m1, hd, hd2⟩ := TM.bind_some hd
          have KX : V K 5 (mkM am hn m1) 301 [(0, .ref am), (1, .int e5), (2, .int s46), (3, .int e53)] [] := by
            clear hd
            have hd := hd2
            refine v_aload_n X dX10_joiner_301 0 0 rfl rfl ?_
            refine t_getA (j := 21) X rfl fl_X10_75 dX10_joiner_302 ?_
            refine v_aload_n X dX10_joiner_305 0 0 rfl rfl ?_
            refine t_getI X hd rfl fl_X10_351 dX10_joiner_306 (fun v61 hd => ?_)
            refine v_iload_n X dX10_joiner_309 3 3 rfl rfl ?_
            refine t_iast (j := 21) X hd rfl dX10_joiner_310 (fun ms hd => ?_)
            refine v_aload_n X dX10_joiner_311 0 0 rfl rfl ?_
            refine v_dup X dX10_joiner_312 rfl ?_
            refine t_getI X hd rfl fl_X10_351 dX10_joiner_313 (fun v62 hd => ?_)
            refine v_iconst (v := 1) X dX10_joiner_316 (by decide) ?_
            refine v_iadd X dX10_joiner_317 ?_
            refine t_putI X hd rfl fp_X10_351 dX10_joiner_318 (fun ms hd => ?_)
            refine v_iload_n X dX10_joiner_321 2 2 rfl rfl ?_
            refine v_iconst (v := 1) X dX10_joiner_322 (by decide) ?_
            refine v_iload_n X dX10_joiner_323 3 3 rfl rfl ?_
            refine v_ishl X dX10_joiner_324 ?_
            refine v_ior X dX10_joiner_325 ?_
            refine t_lvI hd (fun v63 hd => ?_)
            refine v_istore_n (lv2 := [(2, .int v63), (0, .ref am), (1, .int e5), (3, .int e53)]) X dX10_joiner_326 2 rfl (by decide) rfl ?_
            refine v_goto (tgt := 253) X dX10_joiner_327 (by decide) ?_
            exact v_loc [1, 2, 0] rfl (Tlp_in (P := fun (s46 : Int32) m => V K 5 (mkM am hn m) 253 [(0, .ref am), (1, .int e5), (2, .int s46)] []) hd ih47)
          clear hd2
          refine v_loc [1, 2, 3, 0] rfl ?_
          refine Tloop_ind hd (fun (s50 : Int32) m => V K 5 (mkM am hn m) 260 [(0, .ref am), (1, .int e5), (2, .int s46), (3, .int s50)] []) (fun s50 ms x m2 hd ih51 ho52 => ?_)
          refine v_iload_n X dX10_joiner_260 1 1 rfl rfl ?_
          refine v_iload_n X dX10_joiner_261 3 3 rfl rfl ?_
          refine t_callS X hK hd (ct_X10_has _ am e5 s50) (lw_S q1947 q1948 q120 q1949) dn_X10_has rfl ⟨by decide, by decide⟩ rfl (Nat.le_of_ble_eq_true rfl) dX10_joiner_262 (fun v54 ms hd => ?_)
          show V K 5 (mkM am hn ms) 265 [(0, .ref am), (1, .int e5), (2, .int s46), (3, .int s50)] [.int (b2i v54)]
          refine v_ifZ_eq (tgt := 295) X dX10_joiner_265 (by decide) (fun q => ?_) (fun q => ?_)
          · have hd := Tcnd_f q hd
            refine t_iincL (lv2 := fun v55 => [(3, .int v55), (0, .ref am), (1, .int e5), (2, .int s46)]) X hd dX10_joiner_295 3 rfl (by decide : Int32.ofInt 1 = 1) (by decide) (fun v55 => rfl) (fun v55 hd => ?_)
            refine v_goto (tgt := 260) X dX10_joiner_298 (by decide) ?_
            exact v_loc [1, 2, 3, 0] rfl (Tlp_in (P := fun (s50 : Int32) m => V K 5 (mkM am hn m) 260 [(0, .ref am), (1, .int e5), (2, .int s46), (3, .int s50)] []) hd ih51)
          · have hd := Tcnd_t q hd
            refine v_iload_n X dX10_joiner_268 2 2 rfl rfl ?_
            refine v_iload_n X dX10_joiner_269 3 3 rfl rfl ?_
            refine t_callS X hK hd (ct_X10_has _ am s46 s50) (lw_S q1947 q1948 q120 q1949) dn_X10_has rfl ⟨by decide, by decide⟩ rfl (Nat.le_of_ble_eq_true rfl) dX10_joiner_270 (fun v56 ms hd => ?_)
            show V K 5 (mkM am hn ms) 273 [(0, .ref am), (1, .int e5), (2, .int s46), (3, .int s50)] [.int (b2i v56)]
            refine v_ifZ_ne (tgt := 295) X dX10_joiner_273 (by decide) (fun q => ?_) (fun q => ?_)
            · have hd := Tcnd_t q hd
              refine t_iincL (lv2 := fun v57 => [(3, .int v57), (0, .ref am), (1, .int e5), (2, .int s46)]) X hd dX10_joiner_295 3 rfl (by decide : Int32.ofInt 1 = 1) (by decide) (fun v57 => rfl) (fun v57 hd => ?_)
              refine v_goto (tgt := 260) X dX10_joiner_298 (by decide) ?_
              exact v_loc [1, 2, 3, 0] rfl (Tlp_in (P := fun (s50 : Int32) m => V K 5 (mkM am hn m) 260 [(0, .ref am), (1, .int e5), (2, .int s46), (3, .int s50)] []) hd ih51)
            · have hd := Tcnd_f q hd
              refine v_aload_n X dX10_joiner_276 0 0 rfl rfl ?_
              refine t_getA (j := 20) X rfl fl_X10_72 dX10_joiner_277 ?_
              refine v_iload_n X dX10_joiner_280 2 2 rfl rfl ?_
              refine v_iconst (v := 1) X dX10_joiner_281 (by decide) ?_
              refine v_iload_n X dX10_joiner_282 3 3 rfl rfl ?_
              refine v_ishl X dX10_joiner_283 ?_
              refine v_ior X dX10_joiner_284 ?_
              refine t_iald (j := 20) X hd rfl dX10_joiner_285 (fun v58 hd => ?_)
              refine v_aload_n X dX10_joiner_286 0 0 rfl rfl ?_
              refine t_getA (j := 20) X rfl fl_X10_72 dX10_joiner_287 ?_
              refine v_iconst (v := 0) X dX10_joiner_290 (by decide) ?_
              refine t_iald (j := 20) X hd rfl dX10_joiner_291 (fun v59 hd => ?_)
              refine v_icmp_le (tgt := 301) X dX10_joiner_292 (by decide) (fun q => ?_) (fun q => ?_)
              · have hd := Tite_t q hd
                exact v_loc [0, 1, 2, 3] rfl (t_at (P := fun (e53 : Int32) m => V K 5 (mkM am hn m) 301 [(0, .ref am), (1, .int e5), (2, .int s46), (3, .int e53)] []) (Tlp_out hd ho52) KX)
              · have hd := Tite_f q hd
                refine t_iincL (lv2 := fun v60 => [(3, .int v60), (0, .ref am), (1, .int e5), (2, .int s46)]) X hd dX10_joiner_295 3 rfl (by decide : Int32.ofInt 1 = 1) (by decide) (fun v60 => rfl) (fun v60 hd => ?_)
                refine v_goto (tgt := 260) X dX10_joiner_298 (by decide) ?_
                exact v_loc [1, 2, 3, 0] rfl (Tlp_in (P := fun (s50 : Int32) m => V K 5 (mkM am hn m) 260 [(0, .ref am), (1, .int e5), (2, .int s46), (3, .int s50)] []) hd ih51)
      clear hd2
      refine v_loc [1, 2, 0] rfl ?_
      refine Tloop_ind hd (fun (s14 : Int32) m => V K 5 (mkM am hn m) 64 [(0, .ref am), (1, .int e5), (2, .int s14)] []) (fun s14 ms x m2 hd ih15 ho16 => ?_)
      refine v_iload_n X dX10_joiner_64 2 2 rfl rfl ?_
      refine v_if_lt (tgt := 246) X dX10_joiner_65 (by decide) (fun q => ?_) (fun q => ?_)
      · have hd := Tite_t q hd
        exact v_loc [0, 1] rfl (t_at (P := fun (e17 : Unit) m => V K 5 (mkM am hn m) 246 [(0, .ref am), (1, .int e5)] []) (Tlp_out hd ho16) KX)
      · have hd := Tite_f q hd
        refine v_iload_n X dX10_joiner_68 2 2 rfl rfl ?_
        refine v_iload_n X dX10_joiner_69 1 1 rfl rfl ?_
        refine v_iconst (v := (-1)) X dX10_joiner_70 (by decide) ?_
        refine v_ixor X dX10_joiner_71 ?_
        refine v_iand X dX10_joiner_72 ?_
        obtain ⟨u18, m1, hd, hd2⟩ := TM.bind_some hd
        have KJ : V K 5 (mkM am hn m1) 240 [(0, .ref am), (1, .int e5), (2, .int s14)] [] := by
          clear hd
          have hd := hd2
          refine t_iincL (lv2 := fun v19 => [(2, .int v19), (0, .ref am), (1, .int e5)]) X hd dX10_joiner_240 2 rfl (by decide : Int32.ofInt (-1) = (-1)) (by decide) (fun v19 => rfl) (fun v19 hd => ?_)
          refine v_goto (tgt := 64) X dX10_joiner_243 (by decide) ?_
          exact v_loc [1, 2, 0] rfl (Tlp_in (P := fun (s14 : Int32) m => V K 5 (mkM am hn m) 64 [(0, .ref am), (1, .int e5), (2, .int s14)] []) hd ih15)
        clear hd2
        refine v_if_eq (tgt := 79) X dX10_joiner_73 (by decide) (fun q => ?_) (fun q => ?_)
        · have hd := Tite_t q hd
          refine v_iconst (v := 0) X dX10_joiner_79 (by decide) ?_
          refine v_istore_n (lv2 := [(3, .int 0), (0, .ref am), (1, .int e5), (2, .int s14)]) X dX10_joiner_80 3 rfl (by decide) rfl ?_
          obtain ⟨e23, m1, hd, hd2⟩ := TM.bind_some hd
          have KX : V K 5 (mkM am hn m1) 124 [(0, .ref am), (1, .int e5), (2, .int s14)] [] := by
            clear hd
            have hd := hd2
            refine v_aload_n X dX10_joiner_124 0 0 rfl rfl ?_
            refine t_getA (j := 19) X rfl fl_X10_69 dX10_joiner_125 ?_
            refine v_iload_n X dX10_joiner_128 2 2 rfl rfl ?_
            refine v_aload_n X dX10_joiner_129 0 0 rfl rfl ?_
            refine v_aload_n X dX10_joiner_130 0 0 rfl rfl ?_
            refine t_getA (j := 14) X rfl fl_X10_54 dX10_joiner_131 ?_
            refine t_callV X hK hd (ct_X10_clashesOf _ am) (lw_V q2045 q2047 qs66 q120 q2048) ⟨rfl, dn_X10_clashesOf⟩ rfl ⟨by decide, by decide⟩ rfl (Nat.le_of_ble_eq_true rfl) dX10_joiner_134 (fun v30 ms hd => ?_)
            show V K 5 (mkM am hn ms) 137 [(0, .ref am), (1, .int e5), (2, .int s14)] [.int v30, .int s14, .ref (am + (19 + 1))]
            refine t_iast (j := 19) X hd rfl dX10_joiner_137 (fun ms hd => ?_)
            refine v_iload_n X dX10_joiner_138 2 2 rfl rfl ?_
            refine v_iload_n X dX10_joiner_139 1 1 rfl rfl ?_
            obtain ⟨u31, m1, hd, hd2⟩ := TM.bind_some hd
            have KJ : V K 5 (mkM am hn m1) 150 [(0, .ref am), (1, .int e5), (2, .int s14)] [.int u31] := by
              clear hd
              have hd := hd2
              refine v_istore_n (lv2 := [(3, .int u31), (0, .ref am), (1, .int e5), (2, .int s14)]) X dX10_joiner_150 3 rfl (by decide) rfl ?_
              refine v_iconst (v := 0) X dX10_joiner_151 (by decide) ?_
              refine v_istore (lv2 := [(4, .int 0), (3, .int u31), (0, .ref am), (1, .int e5), (2, .int s14)]) X dX10_joiner_152 (by decide) rfl ?_
              obtain ⟨e35, m1, hd, hd2⟩ := TM.bind_some hd
              have KX : V K 5 (mkM am hn m1) 214 [(0, .ref am), (1, .int e5), (2, .int s14), (3, .int e35)] [] := by
                clear hd
                have hd := hd2
                refine v_aload_n X dX10_joiner_214 0 0 rfl rfl ?_
                refine t_getA (j := 20) X rfl fl_X10_72 dX10_joiner_215 ?_
                refine v_iload_n X dX10_joiner_218 2 2 rfl rfl ?_
                refine v_iload_n X dX10_joiner_219 3 3 rfl rfl ?_
                refine v_aload_n X dX10_joiner_220 0 0 rfl rfl ?_
                refine t_getA (j := 19) X rfl fl_X10_69 dX10_joiner_221 ?_
                refine v_iload_n X dX10_joiner_224 2 2 rfl rfl ?_
                refine t_iald (j := 19) X hd rfl dX10_joiner_225 (fun v43 hd => ?_)
                obtain ⟨u44, m1, hd, hd2⟩ := TM.bind_some hd
                have KJ : V K 5 (mkM am hn m1) 239 [(0, .ref am), (1, .int e5), (2, .int s14)] [.int u44, .int s14, .ref (am + (20 + 1))] := by
                  clear hd
                  have hd := hd2
                  refine t_iast (j := 20) X hd rfl dX10_joiner_239 (fun ms hd => ?_)
                  exact v_loc [0, 1, 2] rfl (t_at (P := fun (u18 : Unit) m => V K 5 (mkM am hn m) 240 [(0, .ref am), (1, .int e5), (2, .int s14)] []) hd KJ)
                clear hd2
                refine v_icmp_le (tgt := 233) X dX10_joiner_226 (by decide) (fun q => ?_) (fun q => ?_)
                · have hd := Tite_t q hd
                  refine v_aload_n X dX10_joiner_233 0 0 rfl rfl ?_
                  refine t_getA (j := 19) X rfl fl_X10_69 dX10_joiner_234 ?_
                  refine v_iload_n X dX10_joiner_237 2 2 rfl rfl ?_
                  refine t_iald (j := 19) X hd rfl dX10_joiner_238 (fun v45 hd => ?_)
                  exact v_loc [0, 1, 2] rfl (t_at (P := fun (u44 : Int32) m => V K 5 (mkM am hn m) 239 [(0, .ref am), (1, .int e5), (2, .int s14)] [.int u44, .int s14, .ref (am + (20 + 1))]) hd KJ)
                · have hd := Tite_f q hd
                  refine v_iload_n X dX10_joiner_229 3 3 rfl rfl ?_
                  refine v_goto (tgt := 239) X dX10_joiner_230 (by decide) ?_
                  exact v_loc [0, 1, 2] rfl (t_at (P := fun (u44 : Int32) m => V K 5 (mkM am hn m) 239 [(0, .ref am), (1, .int e5), (2, .int s14)] [.int u44, .int s14, .ref (am + (20 + 1))]) hd KJ)
              clear hd2
              refine v_loc [2, 3, 4, 1, 0] rfl ?_
              refine Tloop_ind hd (fun (s32 : Int32 × Int32) m => V K 5 (mkM am hn m) 154 [(0, .ref am), (1, .int e5), (2, .int s14), (3, .int s32.1), (4, .int s32.2)] []) (fun s32 ms x m2 hd ih33 ho34 => ?_)
              refine v_iload X dX10_joiner_154 4 rfl ?_
              refine v_aload_n X dX10_joiner_156 0 0 rfl rfl ?_
              refine t_callV X hK hd (ct_X10_doors _ am) (lw_V q1986 q1988 qs57 q120 q1989) ⟨rfl, dn_X10_doors⟩ rfl ⟨by decide, by decide⟩ rfl (Nat.le_of_ble_eq_true rfl) dX10_joiner_157 (fun v36 ms hd => ?_)
              show V K 5 (mkM am hn ms) 160 [(0, .ref am), (1, .int e5), (2, .int s14), (3, .int s32.1), (4, .int s32.2)] [.int v36, .int s32.2]
              refine v_icmp_ge (tgt := 214) X dX10_joiner_160 (by decide) (fun q => ?_) (fun q => ?_)
              · have hd := Tite_t q hd
                exact v_loc [0, 1, 2, 3] rfl (t_at (P := fun (e35 : Int32) m => V K 5 (mkM am hn m) 214 [(0, .ref am), (1, .int e5), (2, .int s14), (3, .int e35)] []) (Tlp_out hd ho34) KX)
              · have hd := Tite_f q hd
                refine v_iload_n X dX10_joiner_163 1 1 rfl rfl ?_
                refine v_iload X dX10_joiner_164 4 rfl ?_
                refine t_callS X hK hd (ct_X10_has _ am e5 s32.2) (lw_S q1947 q1948 q120 q1949) dn_X10_has rfl ⟨by decide, by decide⟩ rfl (Nat.le_of_ble_eq_true rfl) dX10_joiner_166 (fun v37 ms hd => ?_)
                show V K 5 (mkM am hn ms) 169 [(0, .ref am), (1, .int e5), (2, .int s14), (3, .int s32.1), (4, .int s32.2)] [.int (b2i v37)]
                obtain ⟨u38, m1, hd, hd2⟩ := TM.bind_some hd
                have KJ : V K 5 (mkM am hn m1) 208 [(0, .ref am), (1, .int e5), (2, .int s14), (3, .int u38), (4, .int s32.2)] [] := by
                  clear hd
                  have hd := hd2
                  refine t_iincL (lv2 := fun v39 => [(4, .int v39), (0, .ref am), (1, .int e5), (2, .int s14), (3, .int u38)]) X hd dX10_joiner_208 4 rfl (by decide : Int32.ofInt 1 = 1) (by decide) (fun v39 => rfl) (fun v39 hd => ?_)
                  refine v_goto (tgt := 154) X dX10_joiner_211 (by decide) ?_
                  exact v_loc [1, 2, 3, 4, 0] rfl (Tlp_in (P := fun (s32 : Int32 × Int32) m => V K 5 (mkM am hn m) 154 [(0, .ref am), (1, .int e5), (2, .int s14), (3, .int s32.1), (4, .int s32.2)] []) hd ih33)
                clear hd2
                refine v_ifZ_eq (tgt := 208) X dX10_joiner_169 (by decide) (fun q => ?_) (fun q => ?_)
                · have hd := Tcnd_f q hd
                  exact v_loc [0, 1, 2, 3, 4] rfl (t_at (P := fun (u38 : Int32) m => V K 5 (mkM am hn m) 208 [(0, .ref am), (1, .int e5), (2, .int s14), (3, .int u38), (4, .int s32.2)] []) hd KJ)
                · have hd := Tcnd_t q hd
                  refine v_iload_n X dX10_joiner_172 2 2 rfl rfl ?_
                  refine v_iload X dX10_joiner_173 4 rfl ?_
                  refine t_callS X hK hd (ct_X10_has _ am s14 s32.2) (lw_S q1947 q1948 q120 q1949) dn_X10_has rfl ⟨by decide, by decide⟩ rfl (Nat.le_of_ble_eq_true rfl) dX10_joiner_175 (fun v40 ms hd => ?_)
                  show V K 5 (mkM am hn ms) 178 [(0, .ref am), (1, .int e5), (2, .int s14), (3, .int s32.1), (4, .int s32.2)] [.int (b2i v40)]
                  refine v_ifZ_ne (tgt := 208) X dX10_joiner_178 (by decide) (fun q => ?_) (fun q => ?_)
                  · have hd := Tcnd_t q hd
                    exact v_loc [0, 1, 2, 3, 4] rfl (t_at (P := fun (u38 : Int32) m => V K 5 (mkM am hn m) 208 [(0, .ref am), (1, .int e5), (2, .int s14), (3, .int u38), (4, .int s32.2)] []) hd KJ)
                  · have hd := Tcnd_f q hd
                    refine v_aload_n X dX10_joiner_181 0 0 rfl rfl ?_
                    refine t_getA (j := 20) X rfl fl_X10_72 dX10_joiner_182 ?_
                    refine v_iload_n X dX10_joiner_185 2 2 rfl rfl ?_
                    refine v_iconst (v := 1) X dX10_joiner_186 (by decide) ?_
                    refine v_iload X dX10_joiner_187 4 rfl ?_
                    refine v_ishl X dX10_joiner_189 ?_
                    refine v_ior X dX10_joiner_190 ?_
                    refine t_iald (j := 20) X hd rfl dX10_joiner_191 (fun v41 hd => ?_)
                    refine v_iload_n X dX10_joiner_192 3 3 rfl rfl ?_
                    refine v_icmp_ge (tgt := 208) X dX10_joiner_193 (by decide) (fun q => ?_) (fun q => ?_)
                    · have hd := Tite_t q hd
                      exact v_loc [0, 1, 2, 3, 4] rfl (t_at (P := fun (u38 : Int32) m => V K 5 (mkM am hn m) 208 [(0, .ref am), (1, .int e5), (2, .int s14), (3, .int u38), (4, .int s32.2)] []) hd KJ)
                    · have hd := Tite_f q hd
                      refine v_aload_n X dX10_joiner_196 0 0 rfl rfl ?_
                      refine t_getA (j := 20) X rfl fl_X10_72 dX10_joiner_197 ?_
                      refine v_iload_n X dX10_joiner_200 2 2 rfl rfl ?_
                      refine v_iconst (v := 1) X dX10_joiner_201 (by decide) ?_
                      refine v_iload X dX10_joiner_202 4 rfl ?_
                      refine v_ishl X dX10_joiner_204 ?_
                      refine v_ior X dX10_joiner_205 ?_
                      refine t_iald (j := 20) X hd rfl dX10_joiner_206 (fun v42 hd => ?_)
                      refine v_istore_n (lv2 := [(3, .int v42), (0, .ref am), (1, .int e5), (2, .int s14), (4, .int s32.2)]) X dX10_joiner_207 3 rfl (by decide) rfl ?_
                      exact v_loc [1, 2, 3, 0, 4] rfl (t_at (P := fun (u38 : Int32) m => V K 5 (mkM am hn m) 208 [(0, .ref am), (1, .int e5), (2, .int s14), (3, .int u38), (4, .int s32.2)] []) hd KJ)
            clear hd2
            refine v_icmp_ne (tgt := 147) X dX10_joiner_140 (by decide) (fun q => ?_) (fun q => ?_)
            · have hd := Tite_f q hd
              refine v_sipush (v := 1000) X dX10_joiner_147 (by decide) ?_
              exact v_loc [0, 1, 2] rfl (t_at (P := fun (u31 : Int32) m => V K 5 (mkM am hn m) 150 [(0, .ref am), (1, .int e5), (2, .int s14)] [.int u31]) hd KJ)
            · have hd := Tite_t q hd
              refine v_iconst (v := 0) X dX10_joiner_143 (by decide) ?_
              refine v_goto (tgt := 150) X dX10_joiner_144 (by decide) ?_
              exact v_loc [0, 1, 2] rfl (t_at (P := fun (u31 : Int32) m => V K 5 (mkM am hn m) 150 [(0, .ref am), (1, .int e5), (2, .int s14)] [.int u31]) hd KJ)
          clear hd2
          refine v_loc [1, 2, 3, 0] rfl ?_
          refine Tloop_ind hd (fun (s20 : Int32) m => V K 5 (mkM am hn m) 81 [(0, .ref am), (1, .int e5), (2, .int s14), (3, .int s20)] []) (fun s20 ms x m2 hd ih21 ho22 => ?_)
          refine v_iload_n X dX10_joiner_81 3 3 rfl rfl ?_
          refine v_aload_n X dX10_joiner_82 0 0 rfl rfl ?_
          refine t_callV X hK hd (ct_X10_doors _ am) (lw_V q1986 q1988 qs57 q120 q1989) ⟨rfl, dn_X10_doors⟩ rfl ⟨by decide, by decide⟩ rfl (Nat.le_of_ble_eq_true rfl) dX10_joiner_83 (fun v24 ms hd => ?_)
          show V K 5 (mkM am hn ms) 86 [(0, .ref am), (1, .int e5), (2, .int s14), (3, .int s20)] [.int v24, .int s20]
          refine v_icmp_ge (tgt := 124) X dX10_joiner_86 (by decide) (fun q => ?_) (fun q => ?_)
          · have hd := Tite_t q hd
            exact v_loc [0, 1, 2] rfl (t_at (P := fun (e23 : Unit) m => V K 5 (mkM am hn m) 124 [(0, .ref am), (1, .int e5), (2, .int s14)] []) (Tlp_out hd ho22) KX)
          · have hd := Tite_f q hd
            refine v_aload_n X dX10_joiner_89 0 0 rfl rfl ?_
            refine t_getA (j := 14) X rfl fl_X10_54 dX10_joiner_90 ?_
            refine v_iload_n X dX10_joiner_93 3 3 rfl rfl ?_
            refine v_iload_n X dX10_joiner_94 2 2 rfl rfl ?_
            refine v_iload_n X dX10_joiner_95 3 3 rfl rfl ?_
            refine t_callS X hK hd (ct_X10_has _ am s14 s20) (lw_S q1947 q1948 q120 q1949) dn_X10_has rfl ⟨by decide, by decide⟩ rfl (Nat.le_of_ble_eq_true rfl) dX10_joiner_96 (fun v25 ms hd => ?_)
            show V K 5 (mkM am hn ms) 99 [(0, .ref am), (1, .int e5), (2, .int s14), (3, .int s20)] [.int (b2i v25), .int s20, .ref (am + (14 + 1))]
            obtain ⟨u26, m1, hd, hd2⟩ := TM.bind_some hd
            have KJ : V K 5 (mkM am hn m1) 117 [(0, .ref am), (1, .int e5), (2, .int s14), (3, .int s20)] [.int u26, .int s20, .ref (am + (14 + 1))] := by
              clear hd
              have hd := hd2
              refine t_iast (j := 14) X hd rfl dX10_joiner_117 (fun ms hd => ?_)
              refine t_iincL (lv2 := fun v27 => [(3, .int v27), (0, .ref am), (1, .int e5), (2, .int s14)]) X hd dX10_joiner_118 3 rfl (by decide : Int32.ofInt 1 = 1) (by decide) (fun v27 => rfl) (fun v27 hd => ?_)
              refine v_goto (tgt := 81) X dX10_joiner_121 (by decide) ?_
              exact v_loc [1, 2, 3, 0] rfl (Tlp_in (P := fun (s20 : Int32) m => V K 5 (mkM am hn m) 81 [(0, .ref am), (1, .int e5), (2, .int s14), (3, .int s20)] []) hd ih21)
            clear hd2
            refine v_ifZ_eq (tgt := 111) X dX10_joiner_99 (by decide) (fun q => ?_) (fun q => ?_)
            · have hd := Tcnd_f q hd
              refine v_aload_n X dX10_joiner_111 0 0 rfl rfl ?_
              refine v_iload_n X dX10_joiner_112 3 3 rfl rfl ?_
              refine v_iconst (v := 4) X dX10_joiner_113 (by decide) ?_
              refine t_callV X hK hd (ct_X10_of _ am s20 4) (lw_V q1994 q1996 qs59 q120 q1997) ⟨rfl, dn_X10_of⟩ rfl ⟨by decide, by decide⟩ rfl (Nat.le_of_ble_eq_true rfl) dX10_joiner_114 (fun v28 ms hd => ?_)
              show V K 5 (mkM am hn ms) 117 [(0, .ref am), (1, .int e5), (2, .int s14), (3, .int s20)] [.int v28, .int s20, .ref (am + (14 + 1))]
              exact v_loc [0, 1, 2, 3] rfl (t_at (P := fun (u26 : Int32) m => V K 5 (mkM am hn m) 117 [(0, .ref am), (1, .int e5), (2, .int s14), (3, .int s20)] [.int u26, .int s20, .ref (am + (14 + 1))]) hd KJ)
            · have hd := Tcnd_t q hd
              refine v_aload_n X dX10_joiner_102 0 0 rfl rfl ?_
              refine t_getA (j := 15) X rfl fl_X10_57 dX10_joiner_103 ?_
              refine v_iload_n X dX10_joiner_106 3 3 rfl rfl ?_
              refine t_iald (j := 15) X hd rfl dX10_joiner_107 (fun v29 hd => ?_)
              refine v_goto (tgt := 117) X dX10_joiner_108 (by decide) ?_
              exact v_loc [0, 1, 2, 3] rfl (t_at (P := fun (u26 : Int32) m => V K 5 (mkM am hn m) 117 [(0, .ref am), (1, .int e5), (2, .int s14), (3, .int s20)] [.int u26, .int s20, .ref (am + (14 + 1))]) hd KJ)
        · have hd := Tite_f q hd
          refine v_goto (tgt := 240) X dX10_joiner_76 (by decide) ?_
          exact v_loc [0, 1, 2] rfl (t_at (P := fun (u18 : Unit) m => V K 5 (mkM am hn m) 240 [(0, .ref am), (1, .int e5), (2, .int s14)] []) hd KJ)
    clear hd2
    refine v_loc [2, 1, 0] rfl ?_
    refine Tloop_ind hd (fun (s2 : Int32 × Int32) m => V K 5 (mkM am hn m) 20 [(0, .ref am), (1, .int s2.1), (2, .int s2.2)] []) (fun s2 ms x m2 hd ih3 ho4 => ?_)
    refine v_iload_n X dX10_joiner_20 2 2 rfl rfl ?_
    refine v_aload_n X dX10_joiner_21 0 0 rfl rfl ?_
    refine t_callV X hK hd (ct_X10_doors _ am) (lw_V q1986 q1988 qs57 q120 q1989) ⟨rfl, dn_X10_doors⟩ rfl ⟨by decide, by decide⟩ rfl (Nat.le_of_ble_eq_true rfl) dX10_joiner_22 (fun v6 ms hd => ?_)
    show V K 5 (mkM am hn ms) 25 [(0, .ref am), (1, .int s2.1), (2, .int s2.2)] [.int v6, .int s2.2]
    refine v_icmp_ge (tgt := 55) X dX10_joiner_25 (by decide) (fun q => ?_) (fun q => ?_)
    · have hd := Tite_t q hd
      exact v_loc [0, 1] rfl (t_at (P := fun (e5 : Int32) m => V K 5 (mkM am hn m) 55 [(0, .ref am), (1, .int e5)] []) (Tlp_out hd ho4) KX)
    · have hd := Tite_f q hd
      refine v_aload_n X dX10_joiner_28 0 0 rfl rfl ?_
      refine t_getA (j := 15) X rfl fl_X10_57 dX10_joiner_29 ?_
      refine v_iload_n X dX10_joiner_32 2 2 rfl rfl ?_
      refine t_iald (j := 15) X hd rfl dX10_joiner_33 (fun v7 hd => ?_)
      refine v_aload_n X dX10_joiner_34 0 0 rfl rfl ?_
      refine v_iload_n X dX10_joiner_35 2 2 rfl rfl ?_
      refine v_iconst (v := 4) X dX10_joiner_36 (by decide) ?_
      refine t_callV X hK hd (ct_X10_of _ am s2.2 4) (lw_V q1994 q1996 qs59 q120 q1997) ⟨rfl, dn_X10_of⟩ rfl ⟨by decide, by decide⟩ rfl (Nat.le_of_ble_eq_true rfl) dX10_joiner_37 (fun v8 ms hd => ?_)
      show V K 5 (mkM am hn ms) 40 [(0, .ref am), (1, .int s2.1), (2, .int s2.2)] [.int v8, .int v7]
      obtain ⟨u9, m1, hd, hd2⟩ := TM.bind_some hd
      have KJ : V K 5 (mkM am hn m1) 49 [(0, .ref am), (1, .int u9), (2, .int s2.2)] [] := by
        clear hd
        have hd := hd2
        refine t_iincL (lv2 := fun v10 => [(2, .int v10), (0, .ref am), (1, .int u9)]) X hd dX10_joiner_49 2 rfl (by decide : Int32.ofInt 1 = 1) (by decide) (fun v10 => rfl) (fun v10 hd => ?_)
        refine v_goto (tgt := 20) X dX10_joiner_52 (by decide) ?_
        exact v_loc [1, 2, 0] rfl (Tlp_in (P := fun (s2 : Int32 × Int32) m => V K 5 (mkM am hn m) 20 [(0, .ref am), (1, .int s2.1), (2, .int s2.2)] []) hd ih3)
      clear hd2
      refine v_icmp_eq (tgt := 49) X dX10_joiner_40 (by decide) (fun q => ?_) (fun q => ?_)
      · have hd := Tite_t q hd
        exact v_loc [0, 1, 2] rfl (t_at (P := fun (u9 : Int32) m => V K 5 (mkM am hn m) 49 [(0, .ref am), (1, .int u9), (2, .int s2.2)] []) hd KJ)
      · have hd := Tite_f q hd
        refine v_iload_n X dX10_joiner_43 1 1 rfl rfl ?_
        refine v_iconst (v := 1) X dX10_joiner_44 (by decide) ?_
        refine v_iload_n X dX10_joiner_45 2 2 rfl rfl ?_
        refine v_ishl X dX10_joiner_46 ?_
        refine v_ior X dX10_joiner_47 ?_
        refine t_lvI hd (fun v11 hd => ?_)
        refine v_istore_n (lv2 := [(1, .int v11), (0, .ref am), (2, .int s2.2)]) X dX10_joiner_48 1 rfl (by decide) rfl ?_
        exact v_loc [1, 0, 2] rfl (t_at (P := fun (u9 : Int32) m => V K 5 (mkM am hn m) 49 [(0, .ref am), (1, .int u9), (2, .int s2.2)] []) hd KJ)
  · have hd := Tite_t q hd
    refine v_iconst (v := (-1)) X dX10_joiner_14 (by decide) ?_
    exact t_iret X hK hd ho dX10_joiner_15
