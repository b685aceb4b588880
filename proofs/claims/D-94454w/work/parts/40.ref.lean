set_option maxRecDepth 100000
def dkwX10_readEnd_0 : List UInt8 := [42, 16, 59, 182, 0, 197, 154, 0, 9, 42, 4, 182, 0, 184, 172, 42, 182, 0, 194, 4, 172]
abbrev dktX10_readEnd_0 : List UInt8 := dkwX10_readEnd_0 ++ []
theorem dksX10_readEnd_0 : cX10_readEnd.data.toList.drop 0 = dktX10_readEnd_0 := by decide +kernel
theorem dX10_readEnd_0 : decode cX10_readEnd 0 = .ok (.aload_n 0, 1) := dk_42 (dk_at dksX10_readEnd_0 0 rfl rfl)
theorem dX10_readEnd_1 : decode cX10_readEnd 1 = .ok (.bipush 59, 2) := dk_16 59 (dk_at dksX10_readEnd_0 1 rfl rfl)
theorem dX10_readEnd_3 : decode cX10_readEnd 3 = .ok (.invokevirtual 197, 3) := dk_182 0 197 (dk_at dksX10_readEnd_0 3 rfl rfl)
theorem dX10_readEnd_6 : decode cX10_readEnd 6 = .ok (.ifCond .ne 9, 3) := dk_154 0 9 (dk_at dksX10_readEnd_0 6 rfl rfl)
theorem dX10_readEnd_9 : decode cX10_readEnd 9 = .ok (.aload_n 0, 1) := dk_42 (dk_at dksX10_readEnd_0 9 rfl rfl)
theorem dX10_readEnd_10 : decode cX10_readEnd 10 = .ok (.iconst 1, 1) := dk_4 (dk_at dksX10_readEnd_0 10 rfl rfl)
theorem dX10_readEnd_11 : decode cX10_readEnd 11 = .ok (.invokevirtual 184, 3) := dk_182 0 184 (dk_at dksX10_readEnd_0 11 rfl rfl)
theorem dX10_readEnd_14 : decode cX10_readEnd 14 = .ok (.ireturn, 1) := dk_172 (dk_at dksX10_readEnd_0 14 rfl rfl)
theorem dX10_readEnd_15 : decode cX10_readEnd 15 = .ok (.aload_n 0, 1) := dk_42 (dk_at dksX10_readEnd_0 15 rfl rfl)
theorem dX10_readEnd_16 : decode cX10_readEnd 16 = .ok (.invokevirtual 194, 3) := dk_182 0 194 (dk_at dksX10_readEnd_0 16 rfl rfl)
theorem dX10_readEnd_19 : decode cX10_readEnd 19 = .ok (.iconst 1, 1) := dk_4 (dk_at dksX10_readEnd_0 19 rfl rfl)
theorem dX10_readEnd_20 : decode cX10_readEnd 20 = .ok (.ireturn, 1) := dk_172 (dk_at dksX10_readEnd_0 20 rfl rfl)
theorem dn_X10_readEnd : yX10_readEnd.cls ≠ "java/lang/invoke/MethodHandle" ∧ yX10_readEnd.cls ≠ "java/lang/invoke/VarHandle" ∧ (parseMethodDescriptor yX10_readEnd.desc).map (fun d => d.parameters.length) = some 0 := by decide +kernel
noncomputable def M_X10_readEnd  : TM Bool := TM.bind (M_X10_isSign 59) (fun v1 => cond v1 (TM.bind (M_X10_go) (fun v2 => TM.pure true)) (TM.bind (M_X10_bad 1) (fun v3 => TM.pure v3)))
set_option maxHeartbeats 4000000 in
theorem ct_X10_readEnd (G : gG) (am : Nat)  : gCtM G am yX10_readEnd cX10_readEnd 1 (some .boolean) 2 45 [.ref am] (M_X10_readEnd) (fun x : Bool => some (.int (b2i x))) := by
  refine gCtM.of (by decide) (Nat.le_of_ble_eq_true rfl) (fun K hn ms ms' r hG X hK hd ho => ?_)
  subst hG
  have X : gX K cX10_readEnd 1 "BitingDoorsModel" "readEnd" (some .boolean) 2 45 := X
  show V K 1 (mkM am hn ms) 0 [(0, .ref am)] []
  unfold M_X10_readEnd at hd
  refine v_aload_n X dX10_readEnd_0 0 0 rfl rfl ?_
  refine v_bipush (v := 59) X dX10_readEnd_1 (by decide) ?_
  refine t_callV X hK hd (ct_X10_isSign _ am 59) (lw_V q1962 q1964 qs54 q120 q1965) ⟨rfl, dn_X10_isSign⟩ rfl ⟨by decide, by decide⟩ rfl (Nat.le_of_ble_eq_true rfl) dX10_readEnd_3 (fun v1 ms hd => ?_)
  show V K 1 (mkM am hn ms) 6 [(0, .ref am)] [.int (b2i v1)]
  refine v_ifZ_ne (tgt := 15) X dX10_readEnd_6 (by decide) (fun q => ?_) (fun q => ?_)
  · have hd := Tcnd_t q hd
    refine v_aload_n X dX10_readEnd_15 0 0 rfl rfl ?_
    refine t_callV X hK hd (ct_X10_go _ am) (lw_V q1876 q1878 qs39 q120 q1879) ⟨rfl, dn_X10_go⟩ rfl ⟨by decide, by decide⟩ rfl (Nat.le_of_ble_eq_true rfl) dX10_readEnd_16 (fun v2 ms hd => ?_)
    show V K 1 (mkM am hn ms) 19 [(0, .ref am)] []
    refine v_iconst (v := 1) X dX10_readEnd_19 (by decide) ?_
    exact t_zret X hK hd rfl ho dX10_readEnd_20
  · have hd := Tcnd_f q hd
    refine v_aload_n X dX10_readEnd_9 0 0 rfl rfl ?_
    refine v_iconst (v := 1) X dX10_readEnd_10 (by decide) ?_
    refine t_callV X hK hd (ct_X10_bad _ am 1) (lw_V q1913 q1915 qs44 q120 q1916) ⟨rfl, dn_X10_bad⟩ rfl ⟨by decide, by decide⟩ rfl (Nat.le_of_ble_eq_true rfl) dX10_readEnd_11 (fun v3 ms hd => ?_)
    show V K 1 (mkM am hn ms) 14 [(0, .ref am)] [.int (b2i v3)]
    exact t_zret X hK hd rfl ho dX10_readEnd_14
def dkwX10_readDayLine_11 : List UInt8 := [21, 4, 4, 96, 42, 180, 0, 191, 79, 42, 89, 180, 1, 137, 4, 96, 181, 1, 137, 42, 182, 0, 246, 172]
abbrev dktX10_readDayLine_11 : List UInt8 := dkwX10_readDayLine_11 ++ []
def dkwX10_readDayLine_10 : List UInt8 := [21, 5, 79, 42, 182, 0, 194, 42, 4, 16, 30, 182, 0, 220, 154, 0, 5, 3, 172, 42, 180, 0, 19]
abbrev dktX10_readDayLine_10 : List UInt8 := dkwX10_readDayLine_10 ++ dktX10_readDayLine_11
def dkwX10_readDayLine_9 : List UInt8 := [132, 5, 1, 167, 255, 235, 21, 5, 7, 160, 0, 9, 42, 4, 182, 0, 184, 172, 42, 180, 0, 19, 21, 4]
abbrev dktX10_readDayLine_9 : List UInt8 := dkwX10_readDayLine_9 ++ dktX10_readDayLine_10
def dkwX10_readDayLine_8 : List UInt8 := [153, 0, 55, 3, 54, 5, 21, 5, 7, 162, 0, 21, 42, 16, 13, 21, 5, 96, 182, 0, 224, 154, 0, 9]
abbrev dktX10_readDayLine_8 : List UInt8 := dkwX10_readDayLine_8 ++ dktX10_readDayLine_9
def dkwX10_readDayLine_7 : List UInt8 := [21, 4, 4, 96, 21, 5, 79, 42, 182, 0, 194, 167, 0, 93, 42, 180, 0, 19, 21, 4, 16, 6, 79, 27]
abbrev dktX10_readDayLine_7 : List UInt8 := dkwX10_readDayLine_7 ++ dktX10_readDayLine_8
def dkwX10_readDayLine_6 : List UInt8 := [182, 0, 184, 172, 42, 180, 0, 19, 21, 4, 28, 153, 0, 7, 7, 167, 0, 4, 8, 79, 42, 180, 0, 19]
abbrev dktX10_readDayLine_6 : List UInt8 := dkwX10_readDayLine_6 ++ dktX10_readDayLine_7
def dkwX10_readDayLine_5 : List UInt8 := [180, 0, 144, 148, 153, 0, 9, 132, 5, 1, 167, 255, 229, 21, 5, 42, 182, 0, 211, 160, 0, 9, 42, 6]
abbrev dktX10_readDayLine_5 : List UInt8 := dkwX10_readDayLine_5 ++ dktX10_readDayLine_6
def dkwX10_readDayLine_4 : List UInt8 := [182, 0, 184, 172, 3, 54, 5, 21, 5, 42, 182, 0, 211, 162, 0, 24, 42, 180, 0, 25, 21, 5, 47, 42]
abbrev dktX10_readDayLine_4 : List UInt8 := dkwX10_readDayLine_4 ++ dktX10_readDayLine_5
def dkwX10_readDayLine_3 : List UInt8 := [104, 54, 4, 42, 182, 0, 194, 28, 154, 0, 7, 29, 153, 0, 98, 42, 182, 0, 214, 154, 0, 9, 42, 4]
abbrev dktX10_readDayLine_3 : List UInt8 := dkwX10_readDayLine_3 ++ dktX10_readDayLine_4
def dkwX10_readDayLine_2 : List UInt8 := [182, 0, 184, 172, 42, 180, 1, 137, 16, 60, 160, 0, 9, 42, 7, 182, 0, 184, 172, 5, 42, 180, 1, 137]
abbrev dktX10_readDayLine_2 : List UInt8 := dkwX10_readDayLine_2 ++ dktX10_readDayLine_3
def dkwX10_readDayLine_1 : List UInt8 := [154, 0, 26, 28, 154, 0, 22, 29, 154, 0, 18, 42, 16, 12, 182, 0, 224, 154, 0, 9, 42, 4]
abbrev dktX10_readDayLine_1 : List UInt8 := dkwX10_readDayLine_1 ++ dktX10_readDayLine_2
def dkwX10_readDayLine_0 : List UInt8 := [42, 16, 9, 182, 0, 224, 60, 42, 16, 10, 182, 0, 224, 61, 42, 16, 11, 182, 0, 224, 62, 27]
abbrev dktX10_readDayLine_0 : List UInt8 := dkwX10_readDayLine_0 ++ dktX10_readDayLine_1
theorem dksX10_readDayLine_0 : cX10_readDayLine.data.toList.drop 0 = dktX10_readDayLine_0 := by decide +kernel
theorem dksX10_readDayLine_1 : cX10_readDayLine.data.toList.drop 22 = dktX10_readDayLine_1 := dk_seg dksX10_readDayLine_0 22 rfl rfl
theorem dksX10_readDayLine_2 : cX10_readDayLine.data.toList.drop 44 = dktX10_readDayLine_2 := dk_seg dksX10_readDayLine_1 22 rfl rfl
theorem dksX10_readDayLine_3 : cX10_readDayLine.data.toList.drop 68 = dktX10_readDayLine_3 := dk_seg dksX10_readDayLine_2 24 rfl rfl
theorem dksX10_readDayLine_4 : cX10_readDayLine.data.toList.drop 92 = dktX10_readDayLine_4 := dk_seg dksX10_readDayLine_3 24 rfl rfl
theorem dksX10_readDayLine_5 : cX10_readDayLine.data.toList.drop 116 = dktX10_readDayLine_5 := dk_seg dksX10_readDayLine_4 24 rfl rfl
theorem dksX10_readDayLine_6 : cX10_readDayLine.data.toList.drop 140 = dktX10_readDayLine_6 := dk_seg dksX10_readDayLine_5 24 rfl rfl
theorem dksX10_readDayLine_7 : cX10_readDayLine.data.toList.drop 164 = dktX10_readDayLine_7 := dk_seg dksX10_readDayLine_6 24 rfl rfl
theorem dksX10_readDayLine_8 : cX10_readDayLine.data.toList.drop 188 = dktX10_readDayLine_8 := dk_seg dksX10_readDayLine_7 24 rfl rfl
theorem dksX10_readDayLine_9 : cX10_readDayLine.data.toList.drop 212 = dktX10_readDayLine_9 := dk_seg dksX10_readDayLine_8 24 rfl rfl
theorem dksX10_readDayLine_10 : cX10_readDayLine.data.toList.drop 236 = dktX10_readDayLine_10 := dk_seg dksX10_readDayLine_9 24 rfl rfl
theorem dksX10_readDayLine_11 : cX10_readDayLine.data.toList.drop 259 = dktX10_readDayLine_11 := dk_seg dksX10_readDayLine_10 23 rfl rfl
theorem dX10_readDayLine_0 : decode cX10_readDayLine 0 = .ok (.aload_n 0, 1) := dk_42 (dk_at dksX10_readDayLine_0 0 rfl rfl)
theorem dX10_readDayLine_1 : decode cX10_readDayLine 1 = .ok (.bipush 9, 2) := dk_16 9 (dk_at dksX10_readDayLine_0 1 rfl rfl)
theorem dX10_readDayLine_3 : decode cX10_readDayLine 3 = .ok (.invokevirtual 224, 3) := dk_182 0 224 (dk_at dksX10_readDayLine_0 3 rfl rfl)
theorem dX10_readDayLine_6 : decode cX10_readDayLine 6 = .ok (.istore_n 1, 1) := dk_60 (dk_at dksX10_readDayLine_0 6 rfl rfl)
theorem dX10_readDayLine_7 : decode cX10_readDayLine 7 = .ok (.aload_n 0, 1) := dk_42 (dk_at dksX10_readDayLine_0 7 rfl rfl)
theorem dX10_readDayLine_8 : decode cX10_readDayLine 8 = .ok (.bipush 10, 2) := dk_16 10 (dk_at dksX10_readDayLine_0 8 rfl rfl)
theorem dX10_readDayLine_10 : decode cX10_readDayLine 10 = .ok (.invokevirtual 224, 3) := dk_182 0 224 (dk_at dksX10_readDayLine_0 10 rfl rfl)
theorem dX10_readDayLine_13 : decode cX10_readDayLine 13 = .ok (.istore_n 2, 1) := dk_61 (dk_at dksX10_readDayLine_0 13 rfl rfl)
theorem dX10_readDayLine_14 : decode cX10_readDayLine 14 = .ok (.aload_n 0, 1) := dk_42 (dk_at dksX10_readDayLine_0 14 rfl rfl)
theorem dX10_readDayLine_15 : decode cX10_readDayLine 15 = .ok (.bipush 11, 2) := dk_16 11 (dk_at dksX10_readDayLine_0 15 rfl rfl)
theorem dX10_readDayLine_17 : decode cX10_readDayLine 17 = .ok (.invokevirtual 224, 3) := dk_182 0 224 (dk_at dksX10_readDayLine_0 17 rfl rfl)
theorem dX10_readDayLine_20 : decode cX10_readDayLine 20 = .ok (.istore_n 3, 1) := dk_62 (dk_at dksX10_readDayLine_0 20 rfl rfl)
theorem dX10_readDayLine_21 : decode cX10_readDayLine 21 = .ok (.iload_n 1, 1) := dk_27 (dk_at dksX10_readDayLine_0 21 rfl rfl)
theorem dX10_readDayLine_22 : decode cX10_readDayLine 22 = .ok (.ifCond .ne 26, 3) := dk_154 0 26 (dk_at dksX10_readDayLine_1 0 rfl rfl)
theorem dX10_readDayLine_25 : decode cX10_readDayLine 25 = .ok (.iload_n 2, 1) := dk_28 (dk_at dksX10_readDayLine_1 3 rfl rfl)
theorem dX10_readDayLine_26 : decode cX10_readDayLine 26 = .ok (.ifCond .ne 22, 3) := dk_154 0 22 (dk_at dksX10_readDayLine_1 4 rfl rfl)
theorem dX10_readDayLine_29 : decode cX10_readDayLine 29 = .ok (.iload_n 3, 1) := dk_29 (dk_at dksX10_readDayLine_1 7 rfl rfl)
theorem dX10_readDayLine_30 : decode cX10_readDayLine 30 = .ok (.ifCond .ne 18, 3) := dk_154 0 18 (dk_at dksX10_readDayLine_1 8 rfl rfl)
theorem dX10_readDayLine_33 : decode cX10_readDayLine 33 = .ok (.aload_n 0, 1) := dk_42 (dk_at dksX10_readDayLine_1 11 rfl rfl)
theorem dX10_readDayLine_34 : decode cX10_readDayLine 34 = .ok (.bipush 12, 2) := dk_16 12 (dk_at dksX10_readDayLine_1 12 rfl rfl)
theorem dX10_readDayLine_36 : decode cX10_readDayLine 36 = .ok (.invokevirtual 224, 3) := dk_182 0 224 (dk_at dksX10_readDayLine_1 14 rfl rfl)
theorem dX10_readDayLine_39 : decode cX10_readDayLine 39 = .ok (.ifCond .ne 9, 3) := dk_154 0 9 (dk_at dksX10_readDayLine_1 17 rfl rfl)
theorem dX10_readDayLine_42 : decode cX10_readDayLine 42 = .ok (.aload_n 0, 1) := dk_42 (dk_at dksX10_readDayLine_1 20 rfl rfl)
theorem dX10_readDayLine_43 : decode cX10_readDayLine 43 = .ok (.iconst 1, 1) := dk_4 (dk_at dksX10_readDayLine_1 21 rfl rfl)
theorem dX10_readDayLine_44 : decode cX10_readDayLine 44 = .ok (.invokevirtual 184, 3) := dk_182 0 184 (dk_at dksX10_readDayLine_2 0 rfl rfl)
theorem dX10_readDayLine_47 : decode cX10_readDayLine 47 = .ok (.ireturn, 1) := dk_172 (dk_at dksX10_readDayLine_2 3 rfl rfl)
theorem dX10_readDayLine_48 : decode cX10_readDayLine 48 = .ok (.aload_n 0, 1) := dk_42 (dk_at dksX10_readDayLine_2 4 rfl rfl)
theorem dX10_readDayLine_49 : decode cX10_readDayLine 49 = .ok (.getfield 393, 3) := dk_180 1 137 (dk_at dksX10_readDayLine_2 5 rfl rfl)
theorem dX10_readDayLine_52 : decode cX10_readDayLine 52 = .ok (.bipush 60, 2) := dk_16 60 (dk_at dksX10_readDayLine_2 8 rfl rfl)
theorem dX10_readDayLine_54 : decode cX10_readDayLine 54 = .ok (.if_icmp .ne 9, 3) := dk_160 0 9 (dk_at dksX10_readDayLine_2 10 rfl rfl)
theorem dX10_readDayLine_57 : decode cX10_readDayLine 57 = .ok (.aload_n 0, 1) := dk_42 (dk_at dksX10_readDayLine_2 13 rfl rfl)
theorem dX10_readDayLine_58 : decode cX10_readDayLine 58 = .ok (.iconst 4, 1) := dk_7 (dk_at dksX10_readDayLine_2 14 rfl rfl)
theorem dX10_readDayLine_59 : decode cX10_readDayLine 59 = .ok (.invokevirtual 184, 3) := dk_182 0 184 (dk_at dksX10_readDayLine_2 15 rfl rfl)
theorem dX10_readDayLine_62 : decode cX10_readDayLine 62 = .ok (.ireturn, 1) := dk_172 (dk_at dksX10_readDayLine_2 18 rfl rfl)
theorem dX10_readDayLine_63 : decode cX10_readDayLine 63 = .ok (.iconst 2, 1) := dk_5 (dk_at dksX10_readDayLine_2 19 rfl rfl)
theorem dX10_readDayLine_64 : decode cX10_readDayLine 64 = .ok (.aload_n 0, 1) := dk_42 (dk_at dksX10_readDayLine_2 20 rfl rfl)
theorem dX10_readDayLine_65 : decode cX10_readDayLine 65 = .ok (.getfield 393, 3) := dk_180 1 137 (dk_at dksX10_readDayLine_2 21 rfl rfl)
theorem dX10_readDayLine_68 : decode cX10_readDayLine 68 = .ok (.imul, 1) := dk_104 (dk_at dksX10_readDayLine_3 0 rfl rfl)
theorem dX10_readDayLine_69 : decode cX10_readDayLine 69 = .ok (.istore 4, 2) := dk_54 4 (dk_at dksX10_readDayLine_3 1 rfl rfl)
theorem dX10_readDayLine_71 : decode cX10_readDayLine 71 = .ok (.aload_n 0, 1) := dk_42 (dk_at dksX10_readDayLine_3 3 rfl rfl)
theorem dX10_readDayLine_72 : decode cX10_readDayLine 72 = .ok (.invokevirtual 194, 3) := dk_182 0 194 (dk_at dksX10_readDayLine_3 4 rfl rfl)
theorem dX10_readDayLine_75 : decode cX10_readDayLine 75 = .ok (.iload_n 2, 1) := dk_28 (dk_at dksX10_readDayLine_3 7 rfl rfl)
theorem dX10_readDayLine_76 : decode cX10_readDayLine 76 = .ok (.ifCond .ne 7, 3) := dk_154 0 7 (dk_at dksX10_readDayLine_3 8 rfl rfl)
theorem dX10_readDayLine_79 : decode cX10_readDayLine 79 = .ok (.iload_n 3, 1) := dk_29 (dk_at dksX10_readDayLine_3 11 rfl rfl)
theorem dX10_readDayLine_80 : decode cX10_readDayLine 80 = .ok (.ifCond .eq 98, 3) := dk_153 0 98 (dk_at dksX10_readDayLine_3 12 rfl rfl)
theorem dX10_readDayLine_83 : decode cX10_readDayLine 83 = .ok (.aload_n 0, 1) := dk_42 (dk_at dksX10_readDayLine_3 15 rfl rfl)
theorem dX10_readDayLine_84 : decode cX10_readDayLine 84 = .ok (.invokevirtual 214, 3) := dk_182 0 214 (dk_at dksX10_readDayLine_3 16 rfl rfl)
theorem dX10_readDayLine_87 : decode cX10_readDayLine 87 = .ok (.ifCond .ne 9, 3) := dk_154 0 9 (dk_at dksX10_readDayLine_3 19 rfl rfl)
theorem dX10_readDayLine_90 : decode cX10_readDayLine 90 = .ok (.aload_n 0, 1) := dk_42 (dk_at dksX10_readDayLine_3 22 rfl rfl)
theorem dX10_readDayLine_91 : decode cX10_readDayLine 91 = .ok (.iconst 1, 1) := dk_4 (dk_at dksX10_readDayLine_3 23 rfl rfl)
theorem dX10_readDayLine_92 : decode cX10_readDayLine 92 = .ok (.invokevirtual 184, 3) := dk_182 0 184 (dk_at dksX10_readDayLine_4 0 rfl rfl)
theorem dX10_readDayLine_95 : decode cX10_readDayLine 95 = .ok (.ireturn, 1) := dk_172 (dk_at dksX10_readDayLine_4 3 rfl rfl)
theorem dX10_readDayLine_96 : decode cX10_readDayLine 96 = .ok (.iconst 0, 1) := dk_3 (dk_at dksX10_readDayLine_4 4 rfl rfl)
theorem dX10_readDayLine_97 : decode cX10_readDayLine 97 = .ok (.istore 5, 2) := dk_54 5 (dk_at dksX10_readDayLine_4 5 rfl rfl)
theorem dX10_readDayLine_99 : decode cX10_readDayLine 99 = .ok (.iload 5, 2) := dk_21 5 (dk_at dksX10_readDayLine_4 7 rfl rfl)
theorem dX10_readDayLine_101 : decode cX10_readDayLine 101 = .ok (.aload_n 0, 1) := dk_42 (dk_at dksX10_readDayLine_4 9 rfl rfl)
theorem dX10_readDayLine_102 : decode cX10_readDayLine 102 = .ok (.invokevirtual 211, 3) := dk_182 0 211 (dk_at dksX10_readDayLine_4 10 rfl rfl)
theorem dX10_readDayLine_105 : decode cX10_readDayLine 105 = .ok (.if_icmp .ge 24, 3) := dk_162 0 24 (dk_at dksX10_readDayLine_4 13 rfl rfl)
theorem dX10_readDayLine_108 : decode cX10_readDayLine 108 = .ok (.aload_n 0, 1) := dk_42 (dk_at dksX10_readDayLine_4 16 rfl rfl)
theorem dX10_readDayLine_109 : decode cX10_readDayLine 109 = .ok (.getfield 25, 3) := dk_180 0 25 (dk_at dksX10_readDayLine_4 17 rfl rfl)
theorem dX10_readDayLine_112 : decode cX10_readDayLine 112 = .ok (.iload 5, 2) := dk_21 5 (dk_at dksX10_readDayLine_4 20 rfl rfl)
theorem dX10_readDayLine_114 : decode cX10_readDayLine 114 = .ok (.laload, 1) := dk_47 (dk_at dksX10_readDayLine_4 22 rfl rfl)
theorem dX10_readDayLine_115 : decode cX10_readDayLine 115 = .ok (.aload_n 0, 1) := dk_42 (dk_at dksX10_readDayLine_4 23 rfl rfl)
theorem dX10_readDayLine_116 : decode cX10_readDayLine 116 = .ok (.getfield 144, 3) := dk_180 0 144 (dk_at dksX10_readDayLine_5 0 rfl rfl)
theorem dX10_readDayLine_119 : decode cX10_readDayLine 119 = .ok (.lcmp, 1) := dk_148 (dk_at dksX10_readDayLine_5 3 rfl rfl)
theorem dX10_readDayLine_120 : decode cX10_readDayLine 120 = .ok (.ifCond .eq 9, 3) := dk_153 0 9 (dk_at dksX10_readDayLine_5 4 rfl rfl)
theorem dX10_readDayLine_123 : decode cX10_readDayLine 123 = .ok (.iinc 5 1, 3) := dk_132 5 1 (dk_at dksX10_readDayLine_5 7 rfl rfl)
theorem dX10_readDayLine_126 : decode cX10_readDayLine 126 = .ok (.goto (-27), 3) := dk_167 255 229 (dk_at dksX10_readDayLine_5 10 rfl rfl)
theorem dX10_readDayLine_129 : decode cX10_readDayLine 129 = .ok (.iload 5, 2) := dk_21 5 (dk_at dksX10_readDayLine_5 13 rfl rfl)
theorem dX10_readDayLine_131 : decode cX10_readDayLine 131 = .ok (.aload_n 0, 1) := dk_42 (dk_at dksX10_readDayLine_5 15 rfl rfl)
theorem dX10_readDayLine_132 : decode cX10_readDayLine 132 = .ok (.invokevirtual 211, 3) := dk_182 0 211 (dk_at dksX10_readDayLine_5 16 rfl rfl)
theorem dX10_readDayLine_135 : decode cX10_readDayLine 135 = .ok (.if_icmp .ne 9, 3) := dk_160 0 9 (dk_at dksX10_readDayLine_5 19 rfl rfl)
theorem dX10_readDayLine_138 : decode cX10_readDayLine 138 = .ok (.aload_n 0, 1) := dk_42 (dk_at dksX10_readDayLine_5 22 rfl rfl)
theorem dX10_readDayLine_139 : decode cX10_readDayLine 139 = .ok (.iconst 3, 1) := dk_6 (dk_at dksX10_readDayLine_5 23 rfl rfl)
theorem dX10_readDayLine_140 : decode cX10_readDayLine 140 = .ok (.invokevirtual 184, 3) := dk_182 0 184 (dk_at dksX10_readDayLine_6 0 rfl rfl)
theorem dX10_readDayLine_143 : decode cX10_readDayLine 143 = .ok (.ireturn, 1) := dk_172 (dk_at dksX10_readDayLine_6 3 rfl rfl)
theorem dX10_readDayLine_144 : decode cX10_readDayLine 144 = .ok (.aload_n 0, 1) := dk_42 (dk_at dksX10_readDayLine_6 4 rfl rfl)
theorem dX10_readDayLine_145 : decode cX10_readDayLine 145 = .ok (.getfield 19, 3) := dk_180 0 19 (dk_at dksX10_readDayLine_6 5 rfl rfl)
theorem dX10_readDayLine_148 : decode cX10_readDayLine 148 = .ok (.iload 4, 2) := dk_21 4 (dk_at dksX10_readDayLine_6 8 rfl rfl)
theorem dX10_readDayLine_150 : decode cX10_readDayLine 150 = .ok (.iload_n 2, 1) := dk_28 (dk_at dksX10_readDayLine_6 10 rfl rfl)
theorem dX10_readDayLine_151 : decode cX10_readDayLine 151 = .ok (.ifCond .eq 7, 3) := dk_153 0 7 (dk_at dksX10_readDayLine_6 11 rfl rfl)
theorem dX10_readDayLine_154 : decode cX10_readDayLine 154 = .ok (.iconst 4, 1) := dk_7 (dk_at dksX10_readDayLine_6 14 rfl rfl)
theorem dX10_readDayLine_155 : decode cX10_readDayLine 155 = .ok (.goto 4, 3) := dk_167 0 4 (dk_at dksX10_readDayLine_6 15 rfl rfl)
theorem dX10_readDayLine_158 : decode cX10_readDayLine 158 = .ok (.iconst 5, 1) := dk_8 (dk_at dksX10_readDayLine_6 18 rfl rfl)
theorem dX10_readDayLine_159 : decode cX10_readDayLine 159 = .ok (.iastore, 1) := dk_79 (dk_at dksX10_readDayLine_6 19 rfl rfl)
theorem dX10_readDayLine_160 : decode cX10_readDayLine 160 = .ok (.aload_n 0, 1) := dk_42 (dk_at dksX10_readDayLine_6 20 rfl rfl)
theorem dX10_readDayLine_161 : decode cX10_readDayLine 161 = .ok (.getfield 19, 3) := dk_180 0 19 (dk_at dksX10_readDayLine_6 21 rfl rfl)
theorem dX10_readDayLine_164 : decode cX10_readDayLine 164 = .ok (.iload 4, 2) := dk_21 4 (dk_at dksX10_readDayLine_7 0 rfl rfl)
theorem dX10_readDayLine_166 : decode cX10_readDayLine 166 = .ok (.iconst 1, 1) := dk_4 (dk_at dksX10_readDayLine_7 2 rfl rfl)
theorem dX10_readDayLine_167 : decode cX10_readDayLine 167 = .ok (.iadd, 1) := dk_96 (dk_at dksX10_readDayLine_7 3 rfl rfl)
theorem dX10_readDayLine_168 : decode cX10_readDayLine 168 = .ok (.iload 5, 2) := dk_21 5 (dk_at dksX10_readDayLine_7 4 rfl rfl)
theorem dX10_readDayLine_170 : decode cX10_readDayLine 170 = .ok (.iastore, 1) := dk_79 (dk_at dksX10_readDayLine_7 6 rfl rfl)
theorem dX10_readDayLine_171 : decode cX10_readDayLine 171 = .ok (.aload_n 0, 1) := dk_42 (dk_at dksX10_readDayLine_7 7 rfl rfl)
theorem dX10_readDayLine_172 : decode cX10_readDayLine 172 = .ok (.invokevirtual 194, 3) := dk_182 0 194 (dk_at dksX10_readDayLine_7 8 rfl rfl)
theorem dX10_readDayLine_175 : decode cX10_readDayLine 175 = .ok (.goto 93, 3) := dk_167 0 93 (dk_at dksX10_readDayLine_7 11 rfl rfl)
theorem dX10_readDayLine_178 : decode cX10_readDayLine 178 = .ok (.aload_n 0, 1) := dk_42 (dk_at dksX10_readDayLine_7 14 rfl rfl)
theorem dX10_readDayLine_179 : decode cX10_readDayLine 179 = .ok (.getfield 19, 3) := dk_180 0 19 (dk_at dksX10_readDayLine_7 15 rfl rfl)
theorem dX10_readDayLine_182 : decode cX10_readDayLine 182 = .ok (.iload 4, 2) := dk_21 4 (dk_at dksX10_readDayLine_7 18 rfl rfl)
theorem dX10_readDayLine_184 : decode cX10_readDayLine 184 = .ok (.bipush 6, 2) := dk_16 6 (dk_at dksX10_readDayLine_7 20 rfl rfl)
theorem dX10_readDayLine_186 : decode cX10_readDayLine 186 = .ok (.iastore, 1) := dk_79 (dk_at dksX10_readDayLine_7 22 rfl rfl)
theorem dX10_readDayLine_187 : decode cX10_readDayLine 187 = .ok (.iload_n 1, 1) := dk_27 (dk_at dksX10_readDayLine_7 23 rfl rfl)
theorem dX10_readDayLine_188 : decode cX10_readDayLine 188 = .ok (.ifCond .eq 55, 3) := dk_153 0 55 (dk_at dksX10_readDayLine_8 0 rfl rfl)
theorem dX10_readDayLine_191 : decode cX10_readDayLine 191 = .ok (.iconst 0, 1) := dk_3 (dk_at dksX10_readDayLine_8 3 rfl rfl)
theorem dX10_readDayLine_192 : decode cX10_readDayLine 192 = .ok (.istore 5, 2) := dk_54 5 (dk_at dksX10_readDayLine_8 4 rfl rfl)
theorem dX10_readDayLine_194 : decode cX10_readDayLine 194 = .ok (.iload 5, 2) := dk_21 5 (dk_at dksX10_readDayLine_8 6 rfl rfl)
theorem dX10_readDayLine_196 : decode cX10_readDayLine 196 = .ok (.iconst 4, 1) := dk_7 (dk_at dksX10_readDayLine_8 8 rfl rfl)
theorem dX10_readDayLine_197 : decode cX10_readDayLine 197 = .ok (.if_icmp .ge 21, 3) := dk_162 0 21 (dk_at dksX10_readDayLine_8 9 rfl rfl)
theorem dX10_readDayLine_200 : decode cX10_readDayLine 200 = .ok (.aload_n 0, 1) := dk_42 (dk_at dksX10_readDayLine_8 12 rfl rfl)
theorem dX10_readDayLine_201 : decode cX10_readDayLine 201 = .ok (.bipush 13, 2) := dk_16 13 (dk_at dksX10_readDayLine_8 13 rfl rfl)
theorem dX10_readDayLine_203 : decode cX10_readDayLine 203 = .ok (.iload 5, 2) := dk_21 5 (dk_at dksX10_readDayLine_8 15 rfl rfl)
theorem dX10_readDayLine_205 : decode cX10_readDayLine 205 = .ok (.iadd, 1) := dk_96 (dk_at dksX10_readDayLine_8 17 rfl rfl)
theorem dX10_readDayLine_206 : decode cX10_readDayLine 206 = .ok (.invokevirtual 224, 3) := dk_182 0 224 (dk_at dksX10_readDayLine_8 18 rfl rfl)
theorem dX10_readDayLine_209 : decode cX10_readDayLine 209 = .ok (.ifCond .ne 9, 3) := dk_154 0 9 (dk_at dksX10_readDayLine_8 21 rfl rfl)
theorem dX10_readDayLine_212 : decode cX10_readDayLine 212 = .ok (.iinc 5 1, 3) := dk_132 5 1 (dk_at dksX10_readDayLine_9 0 rfl rfl)
theorem dX10_readDayLine_215 : decode cX10_readDayLine 215 = .ok (.goto (-21), 3) := dk_167 255 235 (dk_at dksX10_readDayLine_9 3 rfl rfl)
theorem dX10_readDayLine_218 : decode cX10_readDayLine 218 = .ok (.iload 5, 2) := dk_21 5 (dk_at dksX10_readDayLine_9 6 rfl rfl)
theorem dX10_readDayLine_220 : decode cX10_readDayLine 220 = .ok (.iconst 4, 1) := dk_7 (dk_at dksX10_readDayLine_9 8 rfl rfl)
theorem dX10_readDayLine_221 : decode cX10_readDayLine 221 = .ok (.if_icmp .ne 9, 3) := dk_160 0 9 (dk_at dksX10_readDayLine_9 9 rfl rfl)
theorem dX10_readDayLine_224 : decode cX10_readDayLine 224 = .ok (.aload_n 0, 1) := dk_42 (dk_at dksX10_readDayLine_9 12 rfl rfl)
theorem dX10_readDayLine_225 : decode cX10_readDayLine 225 = .ok (.iconst 1, 1) := dk_4 (dk_at dksX10_readDayLine_9 13 rfl rfl)
theorem dX10_readDayLine_226 : decode cX10_readDayLine 226 = .ok (.invokevirtual 184, 3) := dk_182 0 184 (dk_at dksX10_readDayLine_9 14 rfl rfl)
theorem dX10_readDayLine_229 : decode cX10_readDayLine 229 = .ok (.ireturn, 1) := dk_172 (dk_at dksX10_readDayLine_9 17 rfl rfl)
theorem dX10_readDayLine_230 : decode cX10_readDayLine 230 = .ok (.aload_n 0, 1) := dk_42 (dk_at dksX10_readDayLine_9 18 rfl rfl)
theorem dX10_readDayLine_231 : decode cX10_readDayLine 231 = .ok (.getfield 19, 3) := dk_180 0 19 (dk_at dksX10_readDayLine_9 19 rfl rfl)
theorem dX10_readDayLine_234 : decode cX10_readDayLine 234 = .ok (.iload 4, 2) := dk_21 4 (dk_at dksX10_readDayLine_9 22 rfl rfl)
theorem dX10_readDayLine_236 : decode cX10_readDayLine 236 = .ok (.iload 5, 2) := dk_21 5 (dk_at dksX10_readDayLine_10 0 rfl rfl)
theorem dX10_readDayLine_238 : decode cX10_readDayLine 238 = .ok (.iastore, 1) := dk_79 (dk_at dksX10_readDayLine_10 2 rfl rfl)
theorem dX10_readDayLine_239 : decode cX10_readDayLine 239 = .ok (.aload_n 0, 1) := dk_42 (dk_at dksX10_readDayLine_10 3 rfl rfl)
theorem dX10_readDayLine_240 : decode cX10_readDayLine 240 = .ok (.invokevirtual 194, 3) := dk_182 0 194 (dk_at dksX10_readDayLine_10 4 rfl rfl)
theorem dX10_readDayLine_243 : decode cX10_readDayLine 243 = .ok (.aload_n 0, 1) := dk_42 (dk_at dksX10_readDayLine_10 7 rfl rfl)
theorem dX10_readDayLine_244 : decode cX10_readDayLine 244 = .ok (.iconst 1, 1) := dk_4 (dk_at dksX10_readDayLine_10 8 rfl rfl)
theorem dX10_readDayLine_245 : decode cX10_readDayLine 245 = .ok (.bipush 30, 2) := dk_16 30 (dk_at dksX10_readDayLine_10 9 rfl rfl)
theorem dX10_readDayLine_247 : decode cX10_readDayLine 247 = .ok (.invokevirtual 220, 3) := dk_182 0 220 (dk_at dksX10_readDayLine_10 11 rfl rfl)
theorem dX10_readDayLine_250 : decode cX10_readDayLine 250 = .ok (.ifCond .ne 5, 3) := dk_154 0 5 (dk_at dksX10_readDayLine_10 14 rfl rfl)
theorem dX10_readDayLine_253 : decode cX10_readDayLine 253 = .ok (.iconst 0, 1) := dk_3 (dk_at dksX10_readDayLine_10 17 rfl rfl)
theorem dX10_readDayLine_254 : decode cX10_readDayLine 254 = .ok (.ireturn, 1) := dk_172 (dk_at dksX10_readDayLine_10 18 rfl rfl)
theorem dX10_readDayLine_255 : decode cX10_readDayLine 255 = .ok (.aload_n 0, 1) := dk_42 (dk_at dksX10_readDayLine_10 19 rfl rfl)
theorem dX10_readDayLine_256 : decode cX10_readDayLine 256 = .ok (.getfield 19, 3) := dk_180 0 19 (dk_at dksX10_readDayLine_10 20 rfl rfl)
theorem dX10_readDayLine_259 : decode cX10_readDayLine 259 = .ok (.iload 4, 2) := dk_21 4 (dk_at dksX10_readDayLine_11 0 rfl rfl)
theorem dX10_readDayLine_261 : decode cX10_readDayLine 261 = .ok (.iconst 1, 1) := dk_4 (dk_at dksX10_readDayLine_11 2 rfl rfl)
theorem dX10_readDayLine_262 : decode cX10_readDayLine 262 = .ok (.iadd, 1) := dk_96 (dk_at dksX10_readDayLine_11 3 rfl rfl)
theorem dX10_readDayLine_263 : decode cX10_readDayLine 263 = .ok (.aload_n 0, 1) := dk_42 (dk_at dksX10_readDayLine_11 4 rfl rfl)
theorem dX10_readDayLine_264 : decode cX10_readDayLine 264 = .ok (.getfield 191, 3) := dk_180 0 191 (dk_at dksX10_readDayLine_11 5 rfl rfl)
theorem dX10_readDayLine_267 : decode cX10_readDayLine 267 = .ok (.iastore, 1) := dk_79 (dk_at dksX10_readDayLine_11 8 rfl rfl)
theorem dX10_readDayLine_268 : decode cX10_readDayLine 268 = .ok (.aload_n 0, 1) := dk_42 (dk_at dksX10_readDayLine_11 9 rfl rfl)
theorem dX10_readDayLine_269 : decode cX10_readDayLine 269 = .ok (.dup, 1) := dk_89 (dk_at dksX10_readDayLine_11 10 rfl rfl)
theorem dX10_readDayLine_270 : decode cX10_readDayLine 270 = .ok (.getfield 393, 3) := dk_180 1 137 (dk_at dksX10_readDayLine_11 11 rfl rfl)
theorem dX10_readDayLine_273 : decode cX10_readDayLine 273 = .ok (.iconst 1, 1) := dk_4 (dk_at dksX10_readDayLine_11 14 rfl rfl)
theorem dX10_readDayLine_274 : decode cX10_readDayLine 274 = .ok (.iadd, 1) := dk_96 (dk_at dksX10_readDayLine_11 15 rfl rfl)
theorem dX10_readDayLine_275 : decode cX10_readDayLine 275 = .ok (.putfield 393, 3) := dk_181 1 137 (dk_at dksX10_readDayLine_11 16 rfl rfl)
theorem dX10_readDayLine_278 : decode cX10_readDayLine 278 = .ok (.aload_n 0, 1) := dk_42 (dk_at dksX10_readDayLine_11 19 rfl rfl)
theorem dX10_readDayLine_279 : decode cX10_readDayLine 279 = .ok (.invokevirtual 246, 3) := dk_182 0 246 (dk_at dksX10_readDayLine_11 20 rfl rfl)
theorem dX10_readDayLine_282 : decode cX10_readDayLine 282 = .ok (.ireturn, 1) := dk_172 (dk_at dksX10_readDayLine_11 23 rfl rfl)
theorem fl_X10_19 : gFl "BitingDoorsModel" 19 [8] 16 := by
  intro args s hts hN ci hc
  simp only [List.mem_cons, List.not_mem_nil, or_false] at hc
  subst hc
  exact ⟨RX10, TX10, 64, "BitingDoorsModel", gCl_X10, in_X10, by decide, Or.inl (hts _ q1666), fun _ h => h⟩
theorem fl_X10_393 : gFl "BitingDoorsModel" 393 [8] 47 := by
  intro args s hts hN ci hc
  simp only [List.mem_cons, List.not_mem_nil, or_false] at hc
  subst hc
  exact ⟨RX10, TX10, 64, "BitingDoorsModel", gCl_X10, in_X10, by decide, Or.inl (hts _ q1697), fun _ h => h⟩
theorem fp_X10_393 {nm : String} : gFp "BitingDoorsModel" nm 393 [8] 47 .int := by
  intro args s hts hN ci hc
  simp only [List.mem_cons, List.not_mem_nil, or_false] at hc
  subst hc
  exact ⟨RX10, TX10, 64, "BitingDoorsModel", gCl_X10, in_X10, by decide, Or.inl ⟨rfl, Or.inl (hts _ q1697)⟩, fun _ h => h, rfl, fun D tys hK => gap_X10 hts hK⟩
theorem dn_X10_readDayLine : yX10_readDayLine.cls ≠ "java/lang/invoke/MethodHandle" ∧ yX10_readDayLine.cls ≠ "java/lang/invoke/VarHandle" ∧ (parseMethodDescriptor yX10_readDayLine.desc).map (fun d => d.parameters.length) = some 0 := by decide +kernel
noncomputable def M_X10_readDayLine  : TM Bool := TM.bind (M_X10_isWord 9) (fun v1 => TM.bind (M_X10_isWord 10) (fun v2 => TM.bind (M_X10_isWord 11) (fun v3 => cond v1 (TM.bind (tI 47) (fun v4 => if v4 = 60 then TM.bind (M_X10_bad 4) (fun v56 => TM.pure v56) else TM.bind (tI 47) (fun v5 => TM.lv (2 * v5) (fun v6 => TM.bind (M_X10_go) (fun v7 => cond v2 (TM.bind (M_X10_isName) (fun v8 => cond v8 (TM.bind (TM.loop (S := Int32) (E := Int32) (fun s9 => TM.bind (M_X10_doors) (fun v13 => if v13 ≤ s9 then TM.pure (Sum.inr s9) else TM.bind (tB 18 10 s9) (fun v14 => TM.bind (tL 12) (fun v15 => if (lg_cmp v14 v15) = 0 then TM.pure (Sum.inr s9) else TM.lv (s9 + 1) (fun v16 => TM.pure (Sum.inl v16)))))) 0) (fun e12 => TM.bind (M_X10_doors) (fun v17 => if e12 = v17 then TM.bind (M_X10_bad 3) (fun v22 => TM.pure v22) else TM.bind ((cond v2 (TM.pure 4) (TM.pure 5) : TM (Int32))) (fun u18 => TM.bind (sA 16 120 v6 u18) (fun _ => TM.bind (sA 16 120 (v6 + 1) e12) (fun _ => TM.bind (M_X10_go) (fun v19 => TM.bind (tI 47) (fun v20 => TM.bind (sI 47 (v20 + 1)) (fun _ => TM.bind (M_X10_readEnd) (fun v21 => TM.pure v21)))))))))) (TM.bind (M_X10_bad 1) (fun v23 => TM.pure v23)))) (cond v3 (TM.bind (M_X10_isName) (fun v40 => cond v40 (TM.bind (TM.loop (S := Int32) (E := Int32) (fun s41 => TM.bind (M_X10_doors) (fun v45 => if v45 ≤ s41 then TM.pure (Sum.inr s41) else TM.bind (tB 18 10 s41) (fun v46 => TM.bind (tL 12) (fun v47 => if (lg_cmp v46 v47) = 0 then TM.pure (Sum.inr s41) else TM.lv (s41 + 1) (fun v48 => TM.pure (Sum.inl v48)))))) 0) (fun e44 => TM.bind (M_X10_doors) (fun v49 => if e44 = v49 then TM.bind (M_X10_bad 3) (fun v54 => TM.pure v54) else TM.bind ((cond v2 (TM.pure 4) (TM.pure 5) : TM (Int32))) (fun u50 => TM.bind (sA 16 120 v6 u50) (fun _ => TM.bind (sA 16 120 (v6 + 1) e44) (fun _ => TM.bind (M_X10_go) (fun v51 => TM.bind (tI 47) (fun v52 => TM.bind (sI 47 (v52 + 1)) (fun _ => TM.bind (M_X10_readEnd) (fun v53 => TM.pure v53)))))))))) (TM.bind (M_X10_bad 1) (fun v55 => TM.pure v55)))) (TM.bind (sA 16 120 v6 6) (fun _ => cond v1 (TM.bind (TM.loop (S := Int32) (E := Int32) (fun s28 => if 4 ≤ s28 then TM.pure (Sum.inr s28) else TM.bind (M_X10_isWord (13 + s28)) (fun v32 => cond v32 (TM.pure (Sum.inr s28)) (TM.lv (s28 + 1) (fun v33 => TM.pure (Sum.inl v33))))) 0) (fun e31 => if e31 = 4 then TM.bind (M_X10_bad 1) (fun v39 => TM.pure v39) else TM.bind (sA 16 120 v6 e31) (fun _ => TM.bind (M_X10_go) (fun v34 => TM.bind (M_X10_readNumber 1 30) (fun v35 => cond v35 (TM.bind (tI 13) (fun v36 => TM.bind (sA 16 120 (v6 + 1) v36) (fun _ => TM.bind (tI 47) (fun v37 => TM.bind (sI 47 (v37 + 1)) (fun _ => TM.bind (M_X10_readEnd) (fun v38 => TM.pure v38)))))) (TM.pure false)))))) (TM.bind (M_X10_readNumber 1 30) (fun v24 => cond v24 (TM.bind (tI 13) (fun v25 => TM.bind (sA 16 120 (v6 + 1) v25) (fun _ => TM.bind (tI 47) (fun v26 => TM.bind (sI 47 (v26 + 1)) (fun _ => TM.bind (M_X10_readEnd) (fun v27 => TM.pure v27)))))) (TM.pure false))))))))))) (cond v2 (TM.bind (tI 47) (fun v57 => if v57 = 60 then TM.bind (M_X10_bad 4) (fun v109 => TM.pure v109) else TM.bind (tI 47) (fun v58 => TM.lv (2 * v58) (fun v59 => TM.bind (M_X10_go) (fun v60 => cond v2 (TM.bind (M_X10_isName) (fun v61 => cond v61 (TM.bind (TM.loop (S := Int32) (E := Int32) (fun s62 => TM.bind (M_X10_doors) (fun v66 => if v66 ≤ s62 then TM.pure (Sum.inr s62) else TM.bind (tB 18 10 s62) (fun v67 => TM.bind (tL 12) (fun v68 => if (lg_cmp v67 v68) = 0 then TM.pure (Sum.inr s62) else TM.lv (s62 + 1) (fun v69 => TM.pure (Sum.inl v69)))))) 0) (fun e65 => TM.bind (M_X10_doors) (fun v70 => if e65 = v70 then TM.bind (M_X10_bad 3) (fun v75 => TM.pure v75) else TM.bind ((cond v2 (TM.pure 4) (TM.pure 5) : TM (Int32))) (fun u71 => TM.bind (sA 16 120 v59 u71) (fun _ => TM.bind (sA 16 120 (v59 + 1) e65) (fun _ => TM.bind (M_X10_go) (fun v72 => TM.bind (tI 47) (fun v73 => TM.bind (sI 47 (v73 + 1)) (fun _ => TM.bind (M_X10_readEnd) (fun v74 => TM.pure v74)))))))))) (TM.bind (M_X10_bad 1) (fun v76 => TM.pure v76)))) (cond v3 (TM.bind (M_X10_isName) (fun v93 => cond v93 (TM.bind (TM.loop (S := Int32) (E := Int32) (fun s94 => TM.bind (M_X10_doors) (fun v98 => if v98 ≤ s94 then TM.pure (Sum.inr s94) else TM.bind (tB 18 10 s94) (fun v99 => TM.bind (tL 12) (fun v100 => if (lg_cmp v99 v100) = 0 then TM.pure (Sum.inr s94) else TM.lv (s94 + 1) (fun v101 => TM.pure (Sum.inl v101)))))) 0) (fun e97 => TM.bind (M_X10_doors) (fun v102 => if e97 = v102 then TM.bind (M_X10_bad 3) (fun v107 => TM.pure v107) else TM.bind ((cond v2 (TM.pure 4) (TM.pure 5) : TM (Int32))) (fun u103 => TM.bind (sA 16 120 v59 u103) (fun _ => TM.bind (sA 16 120 (v59 + 1) e97) (fun _ => TM.bind (M_X10_go) (fun v104 => TM.bind (tI 47) (fun v105 => TM.bind (sI 47 (v105 + 1)) (fun _ => TM.bind (M_X10_readEnd) (fun v106 => TM.pure v106)))))))))) (TM.bind (M_X10_bad 1) (fun v108 => TM.pure v108)))) (TM.bind (sA 16 120 v59 6) (fun _ => cond v1 (TM.bind (TM.loop (S := Int32) (E := Int32) (fun s81 => if 4 ≤ s81 then TM.pure (Sum.inr s81) else TM.bind (M_X10_isWord (13 + s81)) (fun v85 => cond v85 (TM.pure (Sum.inr s81)) (TM.lv (s81 + 1) (fun v86 => TM.pure (Sum.inl v86))))) 0) (fun e84 => if e84 = 4 then TM.bind (M_X10_bad 1) (fun v92 => TM.pure v92) else TM.bind (sA 16 120 v59 e84) (fun _ => TM.bind (M_X10_go) (fun v87 => TM.bind (M_X10_readNumber 1 30) (fun v88 => cond v88 (TM.bind (tI 13) (fun v89 => TM.bind (sA 16 120 (v59 + 1) v89) (fun _ => TM.bind (tI 47) (fun v90 => TM.bind (sI 47 (v90 + 1)) (fun _ => TM.bind (M_X10_readEnd) (fun v91 => TM.pure v91)))))) (TM.pure false)))))) (TM.bind (M_X10_readNumber 1 30) (fun v77 => cond v77 (TM.bind (tI 13) (fun v78 => TM.bind (sA 16 120 (v59 + 1) v78) (fun _ => TM.bind (tI 47) (fun v79 => TM.bind (sI 47 (v79 + 1)) (fun _ => TM.bind (M_X10_readEnd) (fun v80 => TM.pure v80)))))) (TM.pure false))))))))))) (cond v3 (TM.bind (tI 47) (fun v110 => if v110 = 60 then TM.bind (M_X10_bad 4) (fun v162 => TM.pure v162) else TM.bind (tI 47) (fun v111 => TM.lv (2 * v111) (fun v112 => TM.bind (M_X10_go) (fun v113 => cond v2 (TM.bind (M_X10_isName) (fun v114 => cond v114 (TM.bind (TM.loop (S := Int32) (E := Int32) (fun s115 => TM.bind (M_X10_doors) (fun v119 => if v119 ≤ s115 then TM.pure (Sum.inr s115) else TM.bind (tB 18 10 s115) (fun v120 => TM.bind (tL 12) (fun v121 => if (lg_cmp v120 v121) = 0 then TM.pure (Sum.inr s115) else TM.lv (s115 + 1) (fun v122 => TM.pure (Sum.inl v122)))))) 0) (fun e118 => TM.bind (M_X10_doors) (fun v123 => if e118 = v123 then TM.bind (M_X10_bad 3) (fun v128 => TM.pure v128) else TM.bind ((cond v2 (TM.pure 4) (TM.pure 5) : TM (Int32))) (fun u124 => TM.bind (sA 16 120 v112 u124) (fun _ => TM.bind (sA 16 120 (v112 + 1) e118) (fun _ => TM.bind (M_X10_go) (fun v125 => TM.bind (tI 47) (fun v126 => TM.bind (sI 47 (v126 + 1)) (fun _ => TM.bind (M_X10_readEnd) (fun v127 => TM.pure v127)))))))))) (TM.bind (M_X10_bad 1) (fun v129 => TM.pure v129)))) (cond v3 (TM.bind (M_X10_isName) (fun v146 => cond v146 (TM.bind (TM.loop (S := Int32) (E := Int32) (fun s147 => TM.bind (M_X10_doors) (fun v151 => if v151 ≤ s147 then TM.pure (Sum.inr s147) else TM.bind (tB 18 10 s147) (fun v152 => TM.bind (tL 12) (fun v153 => if (lg_cmp v152 v153) = 0 then TM.pure (Sum.inr s147) else TM.lv (s147 + 1) (fun v154 => TM.pure (Sum.inl v154)))))) 0) (fun e150 => TM.bind (M_X10_doors) (fun v155 => if e150 = v155 then TM.bind (M_X10_bad 3) (fun v160 => TM.pure v160) else TM.bind ((cond v2 (TM.pure 4) (TM.pure 5) : TM (Int32))) (fun u156 => TM.bind (sA 16 120 v112 u156) (fun _ => TM.bind (sA 16 120 (v112 + 1) e150) (fun _ => TM.bind (M_X10_go) (fun v157 => TM.bind (tI 47) (fun v158 => TM.bind (sI 47 (v158 + 1)) (fun _ => TM.bind (M_X10_readEnd) (fun v159 => TM.pure v159)))))))))) (TM.bind (M_X10_bad 1) (fun v161 => TM.pure v161)))) (TM.bind (sA 16 120 v112 6) (fun _ => cond v1 (TM.bind (TM.loop (S := Int32) (E := Int32) (fun s134 => if 4 ≤ s134 then TM.pure (Sum.inr s134) else TM.bind (M_X10_isWord (13 + s134)) (fun v138 => cond v138 (TM.pure (Sum.inr s134)) (TM.lv (s134 + 1) (fun v139 => TM.pure (Sum.inl v139))))) 0) (fun e137 => if e137 = 4 then TM.bind (M_X10_bad 1) (fun v145 => TM.pure v145) else TM.bind (sA 16 120 v112 e137) (fun _ => TM.bind (M_X10_go) (fun v140 => TM.bind (M_X10_readNumber 1 30) (fun v141 => cond v141 (TM.bind (tI 13) (fun v142 => TM.bind (sA 16 120 (v112 + 1) v142) (fun _ => TM.bind (tI 47) (fun v143 => TM.bind (sI 47 (v143 + 1)) (fun _ => TM.bind (M_X10_readEnd) (fun v144 => TM.pure v144)))))) (TM.pure false)))))) (TM.bind (M_X10_readNumber 1 30) (fun v130 => cond v130 (TM.bind (tI 13) (fun v131 => TM.bind (sA 16 120 (v112 + 1) v131) (fun _ => TM.bind (tI 47) (fun v132 => TM.bind (sI 47 (v132 + 1)) (fun _ => TM.bind (M_X10_readEnd) (fun v133 => TM.pure v133)))))) (TM.pure false))))))))))) (TM.bind (M_X10_isWord 12) (fun v163 => cond v163 (TM.bind (tI 47) (fun v164 => if v164 = 60 then TM.bind (M_X10_bad 4) (fun v216 => TM.pure v216) else TM.bind (tI 47) (fun v165 => TM.lv (2 * v165) (fun v166 => TM.bind (M_X10_go) (fun v167 => cond v2 (TM.bind (M_X10_isName) (fun v168 => cond v168 (TM.bind (TM.loop (S := Int32) (E := Int32) (fun s169 => TM.bind (M_X10_doors) (fun v173 => if v173 ≤ s169 then TM.pure (Sum.inr s169) else TM.bind (tB 18 10 s169) (fun v174 => TM.bind (tL 12) (fun v175 => if (lg_cmp v174 v175) = 0 then TM.pure (Sum.inr s169) else TM.lv (s169 + 1) (fun v176 => TM.pure (Sum.inl v176)))))) 0) (fun e172 => TM.bind (M_X10_doors) (fun v177 => if e172 = v177 then TM.bind (M_X10_bad 3) (fun v182 => TM.pure v182) else TM.bind ((cond v2 (TM.pure 4) (TM.pure 5) : TM (Int32))) (fun u178 => TM.bind (sA 16 120 v166 u178) (fun _ => TM.bind (sA 16 120 (v166 + 1) e172) (fun _ => TM.bind (M_X10_go) (fun v179 => TM.bind (tI 47) (fun v180 => TM.bind (sI 47 (v180 + 1)) (fun _ => TM.bind (M_X10_readEnd) (fun v181 => TM.pure v181)))))))))) (TM.bind (M_X10_bad 1) (fun v183 => TM.pure v183)))) (cond v3 (TM.bind (M_X10_isName) (fun v200 => cond v200 (TM.bind (TM.loop (S := Int32) (E := Int32) (fun s201 => TM.bind (M_X10_doors) (fun v205 => if v205 ≤ s201 then TM.pure (Sum.inr s201) else TM.bind (tB 18 10 s201) (fun v206 => TM.bind (tL 12) (fun v207 => if (lg_cmp v206 v207) = 0 then TM.pure (Sum.inr s201) else TM.lv (s201 + 1) (fun v208 => TM.pure (Sum.inl v208)))))) 0) (fun e204 => TM.bind (M_X10_doors) (fun v209 => if e204 = v209 then TM.bind (M_X10_bad 3) (fun v214 => TM.pure v214) else TM.bind ((cond v2 (TM.pure 4) (TM.pure 5) : TM (Int32))) (fun u210 => TM.bind (sA 16 120 v166 u210) (fun _ => TM.bind (sA 16 120 (v166 + 1) e204) (fun _ => TM.bind (M_X10_go) (fun v211 => TM.bind (tI 47) (fun v212 => TM.bind (sI 47 (v212 + 1)) (fun _ => TM.bind (M_X10_readEnd) (fun v213 => TM.pure v213)))))))))) (TM.bind (M_X10_bad 1) (fun v215 => TM.pure v215)))) (TM.bind (sA 16 120 v166 6) (fun _ => cond v1 (TM.bind (TM.loop (S := Int32) (E := Int32) (fun s188 => if 4 ≤ s188 then TM.pure (Sum.inr s188) else TM.bind (M_X10_isWord (13 + s188)) (fun v192 => cond v192 (TM.pure (Sum.inr s188)) (TM.lv (s188 + 1) (fun v193 => TM.pure (Sum.inl v193))))) 0) (fun e191 => if e191 = 4 then TM.bind (M_X10_bad 1) (fun v199 => TM.pure v199) else TM.bind (sA 16 120 v166 e191) (fun _ => TM.bind (M_X10_go) (fun v194 => TM.bind (M_X10_readNumber 1 30) (fun v195 => cond v195 (TM.bind (tI 13) (fun v196 => TM.bind (sA 16 120 (v166 + 1) v196) (fun _ => TM.bind (tI 47) (fun v197 => TM.bind (sI 47 (v197 + 1)) (fun _ => TM.bind (M_X10_readEnd) (fun v198 => TM.pure v198)))))) (TM.pure false)))))) (TM.bind (M_X10_readNumber 1 30) (fun v184 => cond v184 (TM.bind (tI 13) (fun v185 => TM.bind (sA 16 120 (v166 + 1) v185) (fun _ => TM.bind (tI 47) (fun v186 => TM.bind (sI 47 (v186 + 1)) (fun _ => TM.bind (M_X10_readEnd) (fun v187 => TM.pure v187)))))) (TM.pure false))))))))))) (TM.bind (M_X10_bad 1) (fun v217 => TM.pure v217)))))))))
set_option maxHeartbeats 4000000 in
theorem ct_X10_readDayLine (G : gG) (am : Nat)  : gCtM G am yX10_readDayLine cX10_readDayLine 6 (some .boolean) 3 67 [.ref am] (M_X10_readDayLine) (fun x : Bool => some (.int (b2i x))) := by
  refine gCtM.of (by decide) (Nat.le_of_ble_eq_true rfl) (fun K hn ms ms' r hG X hK hd ho => ?_)
  subst hG
  have X : gX K cX10_readDayLine 6 "BitingDoorsModel" "readDayLine" (some .boolean) 3 67 := X
  show V K 6 (mkM am hn ms) 0 [(0, .ref am)] []
  unfold M_X10_readDayLine at hd
  refine v_aload_n X dX10_readDayLine_0 0 0 rfl rfl ?_
  refine v_bipush (v := 9) X dX10_readDayLine_1 (by decide) ?_
  refine t_callV X hK hd (ct_X10_isWord _ am 9) (lw_V q1896 q1898 qs42 q120 q1899) ⟨rfl, dn_X10_isWord⟩ rfl ⟨by decide, by decide⟩ rfl (Nat.le_of_ble_eq_true rfl) dX10_readDayLine_3 (fun v1 ms hd => ?_)
  show V K 6 (mkM am hn ms) 6 [(0, .ref am)] [.int (b2i v1)]
  refine v_istore_n (lv2 := [(1, .int (b2i v1)), (0, .ref am)]) X dX10_readDayLine_6 1 rfl (by decide) rfl ?_
  refine v_aload_n X dX10_readDayLine_7 1 0 rfl rfl ?_
  refine v_bipush (v := 10) X dX10_readDayLine_8 (by decide) ?_
  refine t_callV X hK hd (ct_X10_isWord _ am 10) (lw_V q1896 q1898 qs42 q120 q1899) ⟨rfl, dn_X10_isWord⟩ rfl ⟨by decide, by decide⟩ rfl (Nat.le_of_ble_eq_true rfl) dX10_readDayLine_10 (fun v2 ms hd => ?_)
  show V K 6 (mkM am hn ms) 13 [(1, .int (b2i v1)), (0, .ref am)] [.int (b2i v2)]
  refine v_istore_n (lv2 := [(2, .int (b2i v2)), (1, .int (b2i v1)), (0, .ref am)]) X dX10_readDayLine_13 2 rfl (by decide) rfl ?_
  refine v_aload_n X dX10_readDayLine_14 2 0 rfl rfl ?_
  refine v_bipush (v := 11) X dX10_readDayLine_15 (by decide) ?_
  refine t_callV X hK hd (ct_X10_isWord _ am 11) (lw_V q1896 q1898 qs42 q120 q1899) ⟨rfl, dn_X10_isWord⟩ rfl ⟨by decide, by decide⟩ rfl (Nat.le_of_ble_eq_true rfl) dX10_readDayLine_17 (fun v3 ms hd => ?_)
  show V K 6 (mkM am hn ms) 20 [(2, .int (b2i v2)), (1, .int (b2i v1)), (0, .ref am)] [.int (b2i v3)]
  refine v_istore_n (lv2 := [(3, .int (b2i v3)), (2, .int (b2i v2)), (1, .int (b2i v1)), (0, .ref am)]) X dX10_readDayLine_20 3 rfl (by decide) rfl ?_
  refine v_iload_n X dX10_readDayLine_21 2 1 rfl rfl ?_
  refine v_ifZ_ne (tgt := 48) X dX10_readDayLine_22 (by decide) (fun q => ?_) (fun q => ?_)
  · have hd := Tcnd_t q hd
    refine v_aload_n X dX10_readDayLine_48 3 0 rfl rfl ?_
    refine t_getI X hd rfl fl_X10_393 dX10_readDayLine_49 (fun v4 hd => ?_)
    refine v_bipush (v := 60) X dX10_readDayLine_52 (by decide) ?_
    refine v_icmp_ne (tgt := 63) X dX10_readDayLine_54 (by decide) (fun q => ?_) (fun q => ?_)
    · have hd := Tite_f q hd
      refine v_iconst (v := 2) X dX10_readDayLine_63 (by decide) ?_
      refine v_aload_n X dX10_readDayLine_64 3 0 rfl rfl ?_
      refine t_getI X hd rfl fl_X10_393 dX10_readDayLine_65 (fun v5 hd => ?_)
      refine v_imul X dX10_readDayLine_68 ?_
      refine t_lvI hd (fun v6 hd => ?_)
      refine v_istore (lv2 := [(4, .int v6), (3, .int (b2i v3)), (2, .int (b2i v2)), (1, .int (b2i v1)), (0, .ref am)]) X dX10_readDayLine_69 (by decide) rfl ?_
      refine v_aload_n X dX10_readDayLine_71 4 0 rfl rfl ?_
      refine t_callV X hK hd (ct_X10_go _ am) (lw_V q1876 q1878 qs39 q120 q1879) ⟨rfl, dn_X10_go⟩ rfl ⟨by decide, by decide⟩ rfl (Nat.le_of_ble_eq_true rfl) dX10_readDayLine_72 (fun v7 ms hd => ?_)
      show V K 6 (mkM am hn ms) 75 [(4, .int v6), (3, .int (b2i v3)), (2, .int (b2i v2)), (1, .int (b2i v1)), (0, .ref am)] []
      refine v_iload_n X dX10_readDayLine_75 2 2 rfl rfl ?_
      refine v_ifZ_ne (tgt := 83) X dX10_readDayLine_76 (by decide) (fun q => ?_) (fun q => ?_)
      · have hd := Tcnd_t q hd
        refine v_aload_n X dX10_readDayLine_83 4 0 rfl rfl ?_
        refine t_callV X hK hd (ct_X10_isName _ am) (lw_V q1928 q1930 qs47 q120 q1931) ⟨rfl, dn_X10_isName⟩ rfl ⟨by decide, by decide⟩ rfl (Nat.le_of_ble_eq_true rfl) dX10_readDayLine_84 (fun v8 ms hd => ?_)
        show V K 6 (mkM am hn ms) 87 [(4, .int v6), (3, .int (b2i v3)), (2, .int (b2i v2)), (1, .int (b2i v1)), (0, .ref am)] [.int (b2i v8)]
        refine v_ifZ_ne (tgt := 96) X dX10_readDayLine_87 (by decide) (fun q => ?_) (fun q => ?_)
        · have hd := Tcnd_t q hd
          refine v_iconst (v := 0) X dX10_readDayLine_96 (by decide) ?_
          refine v_istore (lv2 := [(5, .int 0), (4, .int v6), (3, .int (b2i v3)), (2, .int (b2i v2)), (1, .int (b2i v1)), (0, .ref am)]) X dX10_readDayLine_97 (by decide) rfl ?_
          obtain ⟨e12, m1, hd, hd2⟩ := TM.bind_some hd
          have KX : V K 6 (mkM am hn m1) 129 [(0, .ref am), (2, .int (b2i v2)), (4, .int v6), (5, .int e12)] [] := by
            clear hd
            have hd := hd2
            refine v_iload X dX10_readDayLine_129 3 rfl ?_
            refine v_aload_n X dX10_readDayLine_131 0 0 rfl rfl ?_
            refine t_callV X hK hd (ct_X10_doors _ am) (lw_V q1986 q1988 qs57 q120 q1989) ⟨rfl, dn_X10_doors⟩ rfl ⟨by decide, by decide⟩ rfl (Nat.le_of_ble_eq_true rfl) dX10_readDayLine_132 (fun v17 ms hd => ?_)
            show V K 6 (mkM am hn ms) 135 [(0, .ref am), (2, .int (b2i v2)), (4, .int v6), (5, .int e12)] [.int v17, .int e12]
            refine v_icmp_ne (tgt := 144) X dX10_readDayLine_135 (by decide) (fun q => ?_) (fun q => ?_)
            · have hd := Tite_f q hd
              refine v_aload_n X dX10_readDayLine_144 0 0 rfl rfl ?_
              refine t_getA (j := 3) X rfl fl_X10_19 dX10_readDayLine_145 ?_
              refine v_iload X dX10_readDayLine_148 2 rfl ?_
              refine v_iload_n X dX10_readDayLine_150 1 2 rfl rfl ?_
              obtain ⟨u18, m1, hd, hd2⟩ := TM.bind_some hd
              have KJ : V K 6 (mkM am hn m1) 159 [(0, .ref am), (4, .int v6), (5, .int e12)] [.int u18, .int v6, .ref (am + (3 + 1))] := by
                clear hd
                have hd := hd2
                refine t_iast (j := 3) X hd rfl dX10_readDayLine_159 (fun ms hd => ?_)
                refine v_aload_n X dX10_readDayLine_160 0 0 rfl rfl ?_
                refine t_getA (j := 3) X rfl fl_X10_19 dX10_readDayLine_161 ?_
                refine v_iload X dX10_readDayLine_164 1 rfl ?_
                refine v_iconst (v := 1) X dX10_readDayLine_166 (by decide) ?_
                refine v_iadd X dX10_readDayLine_167 ?_
                refine v_iload X dX10_readDayLine_168 2 rfl ?_
                refine t_iast (j := 3) X hd rfl dX10_readDayLine_170 (fun ms hd => ?_)
                refine v_aload_n X dX10_readDayLine_171 0 0 rfl rfl ?_
                refine t_callV X hK hd (ct_X10_go _ am) (lw_V q1876 q1878 qs39 q120 q1879) ⟨rfl, dn_X10_go⟩ rfl ⟨by decide, by decide⟩ rfl (Nat.le_of_ble_eq_true rfl) dX10_readDayLine_172 (fun v19 ms hd => ?_)
                show V K 6 (mkM am hn ms) 175 [(0, .ref am), (4, .int v6), (5, .int e12)] []
                refine v_goto (tgt := 268) X dX10_readDayLine_175 (by decide) ?_
                refine v_aload_n X dX10_readDayLine_268 0 0 rfl rfl ?_
                refine v_dup X dX10_readDayLine_269 rfl ?_
                refine t_getI X hd rfl fl_X10_393 dX10_readDayLine_270 (fun v20 hd => ?_)
                refine v_iconst (v := 1) X dX10_readDayLine_273 (by decide) ?_
                refine v_iadd X dX10_readDayLine_274 ?_
                refine t_putI X hd rfl fp_X10_393 dX10_readDayLine_275 (fun ms hd => ?_)
                refine v_aload_n X dX10_readDayLine_278 0 0 rfl rfl ?_
                refine t_callV X hK hd (ct_X10_readEnd _ am) (lw_V q1958 q1960 qs53 q120 q1961) ⟨rfl, dn_X10_readEnd⟩ rfl ⟨by decide, by decide⟩ rfl (Nat.le_of_ble_eq_true rfl) dX10_readDayLine_279 (fun v21 ms hd => ?_)
                show V K 6 (mkM am hn ms) 282 [(0, .ref am), (4, .int v6), (5, .int e12)] [.int (b2i v21)]
                exact t_zret X hK hd rfl ho dX10_readDayLine_282
              clear hd2
              refine v_ifZ_eq (tgt := 158) X dX10_readDayLine_151 (by decide) (fun q => ?_) (fun q => ?_)
              · have hd := Tcnd_f q hd
                refine v_iconst (v := 5) X dX10_readDayLine_158 (by decide) ?_
                exact v_loc [0, 2, 3] rfl (t_at (P := fun (u18 : Int32) m => V K 6 (mkM am hn m) 159 [(0, .ref am), (4, .int v6), (5, .int e12)] [.int u18, .int v6, .ref (am + (3 + 1))]) hd KJ)
              · have hd := Tcnd_t q hd
                refine v_iconst (v := 4) X dX10_readDayLine_154 (by decide) ?_
                refine v_goto (tgt := 159) X dX10_readDayLine_155 (by decide) ?_
                exact v_loc [0, 2, 3] rfl (t_at (P := fun (u18 : Int32) m => V K 6 (mkM am hn m) 159 [(0, .ref am), (4, .int v6), (5, .int e12)] [.int u18, .int v6, .ref (am + (3 + 1))]) hd KJ)
            · have hd := Tite_t q hd
              refine v_aload_n X dX10_readDayLine_138 0 0 rfl rfl ?_
              refine v_iconst (v := 3) X dX10_readDayLine_139 (by decide) ?_
              refine t_callV X hK hd (ct_X10_bad _ am 3) (lw_V q1913 q1915 qs44 q120 q1916) ⟨rfl, dn_X10_bad⟩ rfl ⟨by decide, by decide⟩ rfl (Nat.le_of_ble_eq_true rfl) dX10_readDayLine_140 (fun v22 ms hd => ?_)
              show V K 6 (mkM am hn ms) 143 [(0, .ref am), (2, .int (b2i v2)), (4, .int v6), (5, .int e12)] [.int (b2i v22)]
              exact t_zret X hK hd rfl ho dX10_readDayLine_143
          clear hd2
          refine v_loc [5, 3, 1, 0] rfl ?_
          refine Tloop_ind hd (fun (s9 : Int32) m => V K 6 (mkM am hn m) 99 [(0, .ref am), (2, .int (b2i v2)), (4, .int v6), (5, .int s9)] []) (fun s9 ms x m2 hd ih10 ho11 => ?_)
          refine v_iload X dX10_readDayLine_99 3 rfl ?_
          refine v_aload_n X dX10_readDayLine_101 0 0 rfl rfl ?_
          refine t_callV X hK hd (ct_X10_doors _ am) (lw_V q1986 q1988 qs57 q120 q1989) ⟨rfl, dn_X10_doors⟩ rfl ⟨by decide, by decide⟩ rfl (Nat.le_of_ble_eq_true rfl) dX10_readDayLine_102 (fun v13 ms hd => ?_)
          show V K 6 (mkM am hn ms) 105 [(0, .ref am), (2, .int (b2i v2)), (4, .int v6), (5, .int s9)] [.int v13, .int s9]
          refine v_icmp_ge (tgt := 129) X dX10_readDayLine_105 (by decide) (fun q => ?_) (fun q => ?_)
          · have hd := Tite_t q hd
            exact v_loc [0, 1, 2, 3] rfl (t_at (P := fun (e12 : Int32) m => V K 6 (mkM am hn m) 129 [(0, .ref am), (2, .int (b2i v2)), (4, .int v6), (5, .int e12)] []) (Tlp_out hd ho11) KX)
          · have hd := Tite_f q hd
            refine v_aload_n X dX10_readDayLine_108 0 0 rfl rfl ?_
            refine t_getA (j := 5) X rfl fl_X10_25 dX10_readDayLine_109 ?_
            refine v_iload X dX10_readDayLine_112 3 rfl ?_
            refine t_lald (j := 5) X hd rfl dX10_readDayLine_114 (fun v14 hd => ?_)
            refine v_aload_n X dX10_readDayLine_115 0 0 rfl rfl ?_
            refine t_getL X hd rfl fl_X10_144 dX10_readDayLine_116 (fun v15 hd => ?_)
            refine v_lcmp X dX10_readDayLine_119 ?_
            refine v_if_eq (tgt := 129) X dX10_readDayLine_120 (by decide) (fun q => ?_) (fun q => ?_)
            · have hd := Tite_t q hd
              exact v_loc [0, 1, 2, 3] rfl (t_at (P := fun (e12 : Int32) m => V K 6 (mkM am hn m) 129 [(0, .ref am), (2, .int (b2i v2)), (4, .int v6), (5, .int e12)] []) (Tlp_out hd ho11) KX)
            · have hd := Tite_f q hd
              refine t_iincL (lv2 := fun v16 => [(5, .int v16), (0, .ref am), (2, .int (b2i v2)), (4, .int v6)]) X hd dX10_readDayLine_123 3 rfl (by decide : Int32.ofInt 1 = 1) (by decide) (fun v16 => rfl) (fun v16 hd => ?_)
              refine v_goto (tgt := 99) X dX10_readDayLine_126 (by decide) ?_
              exact v_loc [1, 2, 3, 0] rfl (Tlp_in (P := fun (s9 : Int32) m => V K 6 (mkM am hn m) 99 [(0, .ref am), (2, .int (b2i v2)), (4, .int v6), (5, .int s9)] []) hd ih10)
        · have hd := Tcnd_f q hd
          refine v_aload_n X dX10_readDayLine_90 4 0 rfl rfl ?_
          refine v_iconst (v := 1) X dX10_readDayLine_91 (by decide) ?_
          refine t_callV X hK hd (ct_X10_bad _ am 1) (lw_V q1913 q1915 qs44 q120 q1916) ⟨rfl, dn_X10_bad⟩ rfl ⟨by decide, by decide⟩ rfl (Nat.le_of_ble_eq_true rfl) dX10_readDayLine_92 (fun v23 ms hd => ?_)
          show V K 6 (mkM am hn ms) 95 [(4, .int v6), (3, .int (b2i v3)), (2, .int (b2i v2)), (1, .int (b2i v1)), (0, .ref am)] [.int (b2i v23)]
          exact t_zret X hK hd rfl ho dX10_readDayLine_95
      · have hd := Tcnd_f q hd
        refine v_iload_n X dX10_readDayLine_79 1 3 rfl rfl ?_
        refine v_ifZ_eq (tgt := 178) X dX10_readDayLine_80 (by decide) (fun q => ?_) (fun q => ?_)
        · have hd := Tcnd_f q hd
          refine v_aload_n X dX10_readDayLine_178 4 0 rfl rfl ?_
          refine t_getA (j := 3) X rfl fl_X10_19 dX10_readDayLine_179 ?_
          refine v_iload X dX10_readDayLine_182 0 rfl ?_
          refine v_bipush (v := 6) X dX10_readDayLine_184 (by decide) ?_
          refine t_iast (j := 3) X hd rfl dX10_readDayLine_186 (fun ms hd => ?_)
          refine v_iload_n X dX10_readDayLine_187 3 1 rfl rfl ?_
          refine v_ifZ_eq (tgt := 243) X dX10_readDayLine_188 (by decide) (fun q => ?_) (fun q => ?_)
          · have hd := Tcnd_f q hd
            refine v_aload_n X dX10_readDayLine_243 4 0 rfl rfl ?_
            refine v_iconst (v := 1) X dX10_readDayLine_244 (by decide) ?_
            refine v_bipush (v := 30) X dX10_readDayLine_245 (by decide) ?_
            refine t_callV X hK hd (ct_X10_readNumber _ am 1 30) (lw_V q1936 q1938 qs49 q120 q1939) ⟨rfl, dn_X10_readNumber⟩ rfl ⟨by decide, by decide⟩ rfl (Nat.le_of_ble_eq_true rfl) dX10_readDayLine_247 (fun v24 ms hd => ?_)
            show V K 6 (mkM am hn ms) 250 [(4, .int v6), (3, .int (b2i v3)), (2, .int (b2i v2)), (1, .int (b2i v1)), (0, .ref am)] [.int (b2i v24)]
            refine v_ifZ_ne (tgt := 255) X dX10_readDayLine_250 (by decide) (fun q => ?_) (fun q => ?_)
            · have hd := Tcnd_t q hd
              refine v_aload_n X dX10_readDayLine_255 4 0 rfl rfl ?_
              refine t_getA (j := 3) X rfl fl_X10_19 dX10_readDayLine_256 ?_
              refine v_iload X dX10_readDayLine_259 0 rfl ?_
              refine v_iconst (v := 1) X dX10_readDayLine_261 (by decide) ?_
              refine v_iadd X dX10_readDayLine_262 ?_
              refine v_aload_n X dX10_readDayLine_263 4 0 rfl rfl ?_
              refine t_getI X hd rfl fl_X10_191 dX10_readDayLine_264 (fun v25 hd => ?_)
              refine t_iast (j := 3) X hd rfl dX10_readDayLine_267 (fun ms hd => ?_)
              refine v_aload_n X dX10_readDayLine_268 4 0 rfl rfl ?_
              refine v_dup X dX10_readDayLine_269 rfl ?_
              refine t_getI X hd rfl fl_X10_393 dX10_readDayLine_270 (fun v26 hd => ?_)
              refine v_iconst (v := 1) X dX10_readDayLine_273 (by decide) ?_
              refine v_iadd X dX10_readDayLine_274 ?_
              refine t_putI X hd rfl fp_X10_393 dX10_readDayLine_275 (fun ms hd => ?_)
              refine v_aload_n X dX10_readDayLine_278 4 0 rfl rfl ?_
              refine t_callV X hK hd (ct_X10_readEnd _ am) (lw_V q1958 q1960 qs53 q120 q1961) ⟨rfl, dn_X10_readEnd⟩ rfl ⟨by decide, by decide⟩ rfl (Nat.le_of_ble_eq_true rfl) dX10_readDayLine_279 (fun v27 ms hd => ?_)
              show V K 6 (mkM am hn ms) 282 [(4, .int v6), (3, .int (b2i v3)), (2, .int (b2i v2)), (1, .int (b2i v1)), (0, .ref am)] [.int (b2i v27)]
              exact t_zret X hK hd rfl ho dX10_readDayLine_282
            · have hd := Tcnd_f q hd
              refine v_iconst (v := 0) X dX10_readDayLine_253 (by decide) ?_
              exact t_zret X hK hd rfl ho dX10_readDayLine_254
          · have hd := Tcnd_t q hd
            refine v_iconst (v := 0) X dX10_readDayLine_191 (by decide) ?_
            refine v_istore (lv2 := [(5, .int 0), (4, .int v6), (3, .int (b2i v3)), (2, .int (b2i v2)), (1, .int (b2i v1)), (0, .ref am)]) X dX10_readDayLine_192 (by decide) rfl ?_
            obtain ⟨e31, m1, hd, hd2⟩ := TM.bind_some hd
            have KX : V K 6 (mkM am hn m1) 218 [(0, .ref am), (4, .int v6), (5, .int e31)] [] := by
              clear hd
              have hd := hd2
              refine v_iload X dX10_readDayLine_218 2 rfl ?_
              refine v_iconst (v := 4) X dX10_readDayLine_220 (by decide) ?_
              refine v_icmp_ne (tgt := 230) X dX10_readDayLine_221 (by decide) (fun q => ?_) (fun q => ?_)
              · have hd := Tite_f q hd
                refine v_aload_n X dX10_readDayLine_230 0 0 rfl rfl ?_
                refine t_getA (j := 3) X rfl fl_X10_19 dX10_readDayLine_231 ?_
                refine v_iload X dX10_readDayLine_234 1 rfl ?_
                refine v_iload X dX10_readDayLine_236 2 rfl ?_
                refine t_iast (j := 3) X hd rfl dX10_readDayLine_238 (fun ms hd => ?_)
                refine v_aload_n X dX10_readDayLine_239 0 0 rfl rfl ?_
                refine t_callV X hK hd (ct_X10_go _ am) (lw_V q1876 q1878 qs39 q120 q1879) ⟨rfl, dn_X10_go⟩ rfl ⟨by decide, by decide⟩ rfl (Nat.le_of_ble_eq_true rfl) dX10_readDayLine_240 (fun v34 ms hd => ?_)
                show V K 6 (mkM am hn ms) 243 [(0, .ref am), (4, .int v6), (5, .int e31)] []
                refine v_aload_n X dX10_readDayLine_243 0 0 rfl rfl ?_
                refine v_iconst (v := 1) X dX10_readDayLine_244 (by decide) ?_
                refine v_bipush (v := 30) X dX10_readDayLine_245 (by decide) ?_
                refine t_callV X hK hd (ct_X10_readNumber _ am 1 30) (lw_V q1936 q1938 qs49 q120 q1939) ⟨rfl, dn_X10_readNumber⟩ rfl ⟨by decide, by decide⟩ rfl (Nat.le_of_ble_eq_true rfl) dX10_readDayLine_247 (fun v35 ms hd => ?_)
                show V K 6 (mkM am hn ms) 250 [(0, .ref am), (4, .int v6), (5, .int e31)] [.int (b2i v35)]
                refine v_ifZ_ne (tgt := 255) X dX10_readDayLine_250 (by decide) (fun q => ?_) (fun q => ?_)
                · have hd := Tcnd_t q hd
                  refine v_aload_n X dX10_readDayLine_255 0 0 rfl rfl ?_
                  refine t_getA (j := 3) X rfl fl_X10_19 dX10_readDayLine_256 ?_
                  refine v_iload X dX10_readDayLine_259 1 rfl ?_
                  refine v_iconst (v := 1) X dX10_readDayLine_261 (by decide) ?_
                  refine v_iadd X dX10_readDayLine_262 ?_
                  refine v_aload_n X dX10_readDayLine_263 0 0 rfl rfl ?_
                  refine t_getI X hd rfl fl_X10_191 dX10_readDayLine_264 (fun v36 hd => ?_)
                  refine t_iast (j := 3) X hd rfl dX10_readDayLine_267 (fun ms hd => ?_)
                  refine v_aload_n X dX10_readDayLine_268 0 0 rfl rfl ?_
                  refine v_dup X dX10_readDayLine_269 rfl ?_
                  refine t_getI X hd rfl fl_X10_393 dX10_readDayLine_270 (fun v37 hd => ?_)
                  refine v_iconst (v := 1) X dX10_readDayLine_273 (by decide) ?_
                  refine v_iadd X dX10_readDayLine_274 ?_
                  refine t_putI X hd rfl fp_X10_393 dX10_readDayLine_275 (fun ms hd => ?_)
                  refine v_aload_n X dX10_readDayLine_278 0 0 rfl rfl ?_
                  refine t_callV X hK hd (ct_X10_readEnd _ am) (lw_V q1958 q1960 qs53 q120 q1961) ⟨rfl, dn_X10_readEnd⟩ rfl ⟨by decide, by decide⟩ rfl (Nat.le_of_ble_eq_true rfl) dX10_readDayLine_279 (fun v38 ms hd => ?_)
                  show V K 6 (mkM am hn ms) 282 [(0, .ref am), (4, .int v6), (5, .int e31)] [.int (b2i v38)]
                  exact t_zret X hK hd rfl ho dX10_readDayLine_282
                · have hd := Tcnd_f q hd
                  refine v_iconst (v := 0) X dX10_readDayLine_253 (by decide) ?_
                  exact t_zret X hK hd rfl ho dX10_readDayLine_254
              · have hd := Tite_t q hd
                refine v_aload_n X dX10_readDayLine_224 0 0 rfl rfl ?_
                refine v_iconst (v := 1) X dX10_readDayLine_225 (by decide) ?_
                refine t_callV X hK hd (ct_X10_bad _ am 1) (lw_V q1913 q1915 qs44 q120 q1916) ⟨rfl, dn_X10_bad⟩ rfl ⟨by decide, by decide⟩ rfl (Nat.le_of_ble_eq_true rfl) dX10_readDayLine_226 (fun v39 ms hd => ?_)
                show V K 6 (mkM am hn ms) 229 [(0, .ref am), (4, .int v6), (5, .int e31)] [.int (b2i v39)]
                exact t_zret X hK hd rfl ho dX10_readDayLine_229
            clear hd2
            refine v_loc [5, 1, 0] rfl ?_
            refine Tloop_ind hd (fun (s28 : Int32) m => V K 6 (mkM am hn m) 194 [(0, .ref am), (4, .int v6), (5, .int s28)] []) (fun s28 ms x m2 hd ih29 ho30 => ?_)
            refine v_iload X dX10_readDayLine_194 2 rfl ?_
            refine v_iconst (v := 4) X dX10_readDayLine_196 (by decide) ?_
            refine v_icmp_ge (tgt := 218) X dX10_readDayLine_197 (by decide) (fun q => ?_) (fun q => ?_)
            · have hd := Tite_t q hd
              exact v_loc [0, 1, 2] rfl (t_at (P := fun (e31 : Int32) m => V K 6 (mkM am hn m) 218 [(0, .ref am), (4, .int v6), (5, .int e31)] []) (Tlp_out hd ho30) KX)
            · have hd := Tite_f q hd
              refine v_aload_n X dX10_readDayLine_200 0 0 rfl rfl ?_
              refine v_bipush (v := 13) X dX10_readDayLine_201 (by decide) ?_
              refine v_iload X dX10_readDayLine_203 2 rfl ?_
              refine v_iadd X dX10_readDayLine_205 ?_
              refine t_callV X hK hd (ct_X10_isWord _ am (13 + s28)) (lw_V q1896 q1898 qs42 q120 q1899) ⟨rfl, dn_X10_isWord⟩ rfl ⟨by decide, by decide⟩ rfl (Nat.le_of_ble_eq_true rfl) dX10_readDayLine_206 (fun v32 ms hd => ?_)
              show V K 6 (mkM am hn ms) 209 [(0, .ref am), (4, .int v6), (5, .int s28)] [.int (b2i v32)]
              refine v_ifZ_ne (tgt := 218) X dX10_readDayLine_209 (by decide) (fun q => ?_) (fun q => ?_)
              · have hd := Tcnd_t q hd
                exact v_loc [0, 1, 2] rfl (t_at (P := fun (e31 : Int32) m => V K 6 (mkM am hn m) 218 [(0, .ref am), (4, .int v6), (5, .int e31)] []) (Tlp_out hd ho30) KX)
              · have hd := Tcnd_f q hd
                refine t_iincL (lv2 := fun v33 => [(5, .int v33), (0, .ref am), (4, .int v6)]) X hd dX10_readDayLine_212 2 rfl (by decide : Int32.ofInt 1 = 1) (by decide) (fun v33 => rfl) (fun v33 hd => ?_)
                refine v_goto (tgt := 194) X dX10_readDayLine_215 (by decide) ?_
                exact v_loc [1, 2, 0] rfl (Tlp_in (P := fun (s28 : Int32) m => V K 6 (mkM am hn m) 194 [(0, .ref am), (4, .int v6), (5, .int s28)] []) hd ih29)
        · have hd := Tcnd_t q hd
          refine v_aload_n X dX10_readDayLine_83 4 0 rfl rfl ?_
          refine t_callV X hK hd (ct_X10_isName _ am) (lw_V q1928 q1930 qs47 q120 q1931) ⟨rfl, dn_X10_isName⟩ rfl ⟨by decide, by decide⟩ rfl (Nat.le_of_ble_eq_true rfl) dX10_readDayLine_84 (fun v40 ms hd => ?_)
          show V K 6 (mkM am hn ms) 87 [(4, .int v6), (3, .int (b2i v3)), (2, .int (b2i v2)), (1, .int (b2i v1)), (0, .ref am)] [.int (b2i v40)]
          refine v_ifZ_ne (tgt := 96) X dX10_readDayLine_87 (by decide) (fun q => ?_) (fun q => ?_)
          · have hd := Tcnd_t q hd
            refine v_iconst (v := 0) X dX10_readDayLine_96 (by decide) ?_
            refine v_istore (lv2 := [(5, .int 0), (4, .int v6), (3, .int (b2i v3)), (2, .int (b2i v2)), (1, .int (b2i v1)), (0, .ref am)]) X dX10_readDayLine_97 (by decide) rfl ?_
            obtain ⟨e44, m1, hd, hd2⟩ := TM.bind_some hd
            have KX : V K 6 (mkM am hn m1) 129 [(0, .ref am), (2, .int (b2i v2)), (4, .int v6), (5, .int e44)] [] := by
              clear hd
              have hd := hd2
              refine v_iload X dX10_readDayLine_129 3 rfl ?_
              refine v_aload_n X dX10_readDayLine_131 0 0 rfl rfl ?_
              refine t_callV X hK hd (ct_X10_doors _ am) (lw_V q1986 q1988 qs57 q120 q1989) ⟨rfl, dn_X10_doors⟩ rfl ⟨by decide, by decide⟩ rfl (Nat.le_of_ble_eq_true rfl) dX10_readDayLine_132 (fun v49 ms hd => ?_)
              show V K 6 (mkM am hn ms) 135 [(0, .ref am), (2, .int (b2i v2)), (4, .int v6), (5, .int e44)] [.int v49, .int e44]
              refine v_icmp_ne (tgt := 144) X dX10_readDayLine_135 (by decide) (fun q => ?_) (fun q => ?_)
              · have hd := Tite_f q hd
                refine v_aload_n X dX10_readDayLine_144 0 0 rfl rfl ?_
                refine t_getA (j := 3) X rfl fl_X10_19 dX10_readDayLine_145 ?_
                refine v_iload X dX10_readDayLine_148 2 rfl ?_
                refine v_iload_n X dX10_readDayLine_150 1 2 rfl rfl ?_
                obtain ⟨u50, m1, hd, hd2⟩ := TM.bind_some hd
                have KJ : V K 6 (mkM am hn m1) 159 [(0, .ref am), (4, .int v6), (5, .int e44)] [.int u50, .int v6, .ref (am + (3 + 1))] := by
                  clear hd
                  have hd := hd2
                  refine t_iast (j := 3) X hd rfl dX10_readDayLine_159 (fun ms hd => ?_)
                  refine v_aload_n X dX10_readDayLine_160 0 0 rfl rfl ?_
                  refine t_getA (j := 3) X rfl fl_X10_19 dX10_readDayLine_161 ?_
                  refine v_iload X dX10_readDayLine_164 1 rfl ?_
                  refine v_iconst (v := 1) X dX10_readDayLine_166 (by decide) ?_
                  refine v_iadd X dX10_readDayLine_167 ?_
                  refine v_iload X dX10_readDayLine_168 2 rfl ?_
                  refine t_iast (j := 3) X hd rfl dX10_readDayLine_170 (fun ms hd => ?_)
                  refine v_aload_n X dX10_readDayLine_171 0 0 rfl rfl ?_
                  refine t_callV X hK hd (ct_X10_go _ am) (lw_V q1876 q1878 qs39 q120 q1879) ⟨rfl, dn_X10_go⟩ rfl ⟨by decide, by decide⟩ rfl (Nat.le_of_ble_eq_true rfl) dX10_readDayLine_172 (fun v51 ms hd => ?_)
                  show V K 6 (mkM am hn ms) 175 [(0, .ref am), (4, .int v6), (5, .int e44)] []
                  refine v_goto (tgt := 268) X dX10_readDayLine_175 (by decide) ?_
                  refine v_aload_n X dX10_readDayLine_268 0 0 rfl rfl ?_
                  refine v_dup X dX10_readDayLine_269 rfl ?_
                  refine t_getI X hd rfl fl_X10_393 dX10_readDayLine_270 (fun v52 hd => ?_)
                  refine v_iconst (v := 1) X dX10_readDayLine_273 (by decide) ?_
                  refine v_iadd X dX10_readDayLine_274 ?_
                  refine t_putI X hd rfl fp_X10_393 dX10_readDayLine_275 (fun ms hd => ?_)
                  refine v_aload_n X dX10_readDayLine_278 0 0 rfl rfl ?_
                  refine t_callV X hK hd (ct_X10_readEnd _ am) (lw_V q1958 q1960 qs53 q120 q1961) ⟨rfl, dn_X10_readEnd⟩ rfl ⟨by decide, by decide⟩ rfl (Nat.le_of_ble_eq_true rfl) dX10_readDayLine_279 (fun v53 ms hd => ?_)
                  show V K 6 (mkM am hn ms) 282 [(0, .ref am), (4, .int v6), (5, .int e44)] [.int (b2i v53)]
                  exact t_zret X hK hd rfl ho dX10_readDayLine_282
                clear hd2
                refine v_ifZ_eq (tgt := 158) X dX10_readDayLine_151 (by decide) (fun q => ?_) (fun q => ?_)
                · have hd := Tcnd_f q hd
                  refine v_iconst (v := 5) X dX10_readDayLine_158 (by decide) ?_
                  exact v_loc [0, 2, 3] rfl (t_at (P := fun (u50 : Int32) m => V K 6 (mkM am hn m) 159 [(0, .ref am), (4, .int v6), (5, .int e44)] [.int u50, .int v6, .ref (am + (3 + 1))]) hd KJ)
                · have hd := Tcnd_t q hd
                  refine v_iconst (v := 4) X dX10_readDayLine_154 (by decide) ?_
                  refine v_goto (tgt := 159) X dX10_readDayLine_155 (by decide) ?_
                  exact v_loc [0, 2, 3] rfl (t_at (P := fun (u50 : Int32) m => V K 6 (mkM am hn m) 159 [(0, .ref am), (4, .int v6), (5, .int e44)] [.int u50, .int v6, .ref (am + (3 + 1))]) hd KJ)
              · have hd := Tite_t q hd
                refine v_aload_n X dX10_readDayLine_138 0 0 rfl rfl ?_
                refine v_iconst (v := 3) X dX10_readDayLine_139 (by decide) ?_
                refine t_callV X hK hd (ct_X10_bad _ am 3) (lw_V q1913 q1915 qs44 q120 q1916) ⟨rfl, dn_X10_bad⟩ rfl ⟨by decide, by decide⟩ rfl (Nat.le_of_ble_eq_true rfl) dX10_readDayLine_140 (fun v54 ms hd => ?_)
                show V K 6 (mkM am hn ms) 143 [(0, .ref am), (2, .int (b2i v2)), (4, .int v6), (5, .int e44)] [.int (b2i v54)]
                exact t_zret X hK hd rfl ho dX10_readDayLine_143
            clear hd2
            refine v_loc [5, 3, 1, 0] rfl ?_
            refine Tloop_ind hd (fun (s41 : Int32) m => V K 6 (mkM am hn m) 99 [(0, .ref am), (2, .int (b2i v2)), (4, .int v6), (5, .int s41)] []) (fun s41 ms x m2 hd ih42 ho43 => ?_)
            refine v_iload X dX10_readDayLine_99 3 rfl ?_
            refine v_aload_n X dX10_readDayLine_101 0 0 rfl rfl ?_
            refine t_callV X hK hd (ct_X10_doors _ am) (lw_V q1986 q1988 qs57 q120 q1989) ⟨rfl, dn_X10_doors⟩ rfl ⟨by decide, by decide⟩ rfl (Nat.le_of_ble_eq_true rfl) dX10_readDayLine_102 (fun v45 ms hd => ?_)
            show V K 6 (mkM am hn ms) 105 [(0, .ref am), (2, .int (b2i v2)), (4, .int v6), (5, .int s41)] [.int v45, .int s41]
            refine v_icmp_ge (tgt := 129) X dX10_readDayLine_105 (by decide) (fun q => ?_) (fun q => ?_)
            · have hd := Tite_t q hd
              exact v_loc [0, 1, 2, 3] rfl (t_at (P := fun (e44 : Int32) m => V K 6 (mkM am hn m) 129 [(0, .ref am), (2, .int (b2i v2)), (4, .int v6), (5, .int e44)] []) (Tlp_out hd ho43) KX)
            · have hd := Tite_f q hd
              refine v_aload_n X dX10_readDayLine_108 0 0 rfl rfl ?_
              refine t_getA (j := 5) X rfl fl_X10_25 dX10_readDayLine_109 ?_
              refine v_iload X dX10_readDayLine_112 3 rfl ?_
              refine t_lald (j := 5) X hd rfl dX10_readDayLine_114 (fun v46 hd => ?_)
              refine v_aload_n X dX10_readDayLine_115 0 0 rfl rfl ?_
              refine t_getL X hd rfl fl_X10_144 dX10_readDayLine_116 (fun v47 hd => ?_)
              refine v_lcmp X dX10_readDayLine_119 ?_
              refine v_if_eq (tgt := 129) X dX10_readDayLine_120 (by decide) (fun q => ?_) (fun q => ?_)
              · have hd := Tite_t q hd
                exact v_loc [0, 1, 2, 3] rfl (t_at (P := fun (e44 : Int32) m => V K 6 (mkM am hn m) 129 [(0, .ref am), (2, .int (b2i v2)), (4, .int v6), (5, .int e44)] []) (Tlp_out hd ho43) KX)
              · have hd := Tite_f q hd
                refine t_iincL (lv2 := fun v48 => [(5, .int v48), (0, .ref am), (2, .int (b2i v2)), (4, .int v6)]) X hd dX10_readDayLine_123 3 rfl (by decide : Int32.ofInt 1 = 1) (by decide) (fun v48 => rfl) (fun v48 hd => ?_)
                refine v_goto (tgt := 99) X dX10_readDayLine_126 (by decide) ?_
                exact v_loc [1, 2, 3, 0] rfl (Tlp_in (P := fun (s41 : Int32) m => V K 6 (mkM am hn m) 99 [(0, .ref am), (2, .int (b2i v2)), (4, .int v6), (5, .int s41)] []) hd ih42)
          · have hd := Tcnd_f q hd
            refine v_aload_n X dX10_readDayLine_90 4 0 rfl rfl ?_
            refine v_iconst (v := 1) X dX10_readDayLine_91 (by decide) ?_
            refine t_callV X hK hd (ct_X10_bad _ am 1) (lw_V q1913 q1915 qs44 q120 q1916) ⟨rfl, dn_X10_bad⟩ rfl ⟨by decide, by decide⟩ rfl (Nat.le_of_ble_eq_true rfl) dX10_readDayLine_92 (fun v55 ms hd => ?_)
            show V K 6 (mkM am hn ms) 95 [(4, .int v6), (3, .int (b2i v3)), (2, .int (b2i v2)), (1, .int (b2i v1)), (0, .ref am)] [.int (b2i v55)]
            exact t_zret X hK hd rfl ho dX10_readDayLine_95
    · have hd := Tite_t q hd
      refine v_aload_n X dX10_readDayLine_57 3 0 rfl rfl ?_
      refine v_iconst (v := 4) X dX10_readDayLine_58 (by decide) ?_
      refine t_callV X hK hd (ct_X10_bad _ am 4) (lw_V q1913 q1915 qs44 q120 q1916) ⟨rfl, dn_X10_bad⟩ rfl ⟨by decide, by decide⟩ rfl (Nat.le_of_ble_eq_true rfl) dX10_readDayLine_59 (fun v56 ms hd => ?_)
      show V K 6 (mkM am hn ms) 62 [(3, .int (b2i v3)), (2, .int (b2i v2)), (1, .int (b2i v1)), (0, .ref am)] [.int (b2i v56)]
      exact t_zret X hK hd rfl ho dX10_readDayLine_62
  · have hd := Tcnd_f q hd
    refine v_iload_n X dX10_readDayLine_25 1 2 rfl rfl ?_
    refine v_ifZ_ne (tgt := 48) X dX10_readDayLine_26 (by decide) (fun q => ?_) (fun q => ?_)
    · have hd := Tcnd_t q hd
      refine v_aload_n X dX10_readDayLine_48 3 0 rfl rfl ?_
      refine t_getI X hd rfl fl_X10_393 dX10_readDayLine_49 (fun v57 hd => ?_)
      refine v_bipush (v := 60) X dX10_readDayLine_52 (by decide) ?_
      refine v_icmp_ne (tgt := 63) X dX10_readDayLine_54 (by decide) (fun q => ?_) (fun q => ?_)
      · have hd := Tite_f q hd
        refine v_iconst (v := 2) X dX10_readDayLine_63 (by decide) ?_
        refine v_aload_n X dX10_readDayLine_64 3 0 rfl rfl ?_
        refine t_getI X hd rfl fl_X10_393 dX10_readDayLine_65 (fun v58 hd => ?_)
        refine v_imul X dX10_readDayLine_68 ?_
        refine t_lvI hd (fun v59 hd => ?_)
        refine v_istore (lv2 := [(4, .int v59), (3, .int (b2i v3)), (2, .int (b2i v2)), (1, .int (b2i v1)), (0, .ref am)]) X dX10_readDayLine_69 (by decide) rfl ?_
        refine v_aload_n X dX10_readDayLine_71 4 0 rfl rfl ?_
        refine t_callV X hK hd (ct_X10_go _ am) (lw_V q1876 q1878 qs39 q120 q1879) ⟨rfl, dn_X10_go⟩ rfl ⟨by decide, by decide⟩ rfl (Nat.le_of_ble_eq_true rfl) dX10_readDayLine_72 (fun v60 ms hd => ?_)
        show V K 6 (mkM am hn ms) 75 [(4, .int v59), (3, .int (b2i v3)), (2, .int (b2i v2)), (1, .int (b2i v1)), (0, .ref am)] []
        refine v_iload_n X dX10_readDayLine_75 2 2 rfl rfl ?_
        refine v_ifZ_ne (tgt := 83) X dX10_readDayLine_76 (by decide) (fun q => ?_) (fun q => ?_)
        · have hd := Tcnd_t q hd
          refine v_aload_n X dX10_readDayLine_83 4 0 rfl rfl ?_
          refine t_callV X hK hd (ct_X10_isName _ am) (lw_V q1928 q1930 qs47 q120 q1931) ⟨rfl, dn_X10_isName⟩ rfl ⟨by decide, by decide⟩ rfl (Nat.le_of_ble_eq_true rfl) dX10_readDayLine_84 (fun v61 ms hd => ?_)
          show V K 6 (mkM am hn ms) 87 [(4, .int v59), (3, .int (b2i v3)), (2, .int (b2i v2)), (1, .int (b2i v1)), (0, .ref am)] [.int (b2i v61)]
          refine v_ifZ_ne (tgt := 96) X dX10_readDayLine_87 (by decide) (fun q => ?_) (fun q => ?_)
          · have hd := Tcnd_t q hd
            refine v_iconst (v := 0) X dX10_readDayLine_96 (by decide) ?_
            refine v_istore (lv2 := [(5, .int 0), (4, .int v59), (3, .int (b2i v3)), (2, .int (b2i v2)), (1, .int (b2i v1)), (0, .ref am)]) X dX10_readDayLine_97 (by decide) rfl ?_
            obtain ⟨e65, m1, hd, hd2⟩ := TM.bind_some hd
            have KX : V K 6 (mkM am hn m1) 129 [(0, .ref am), (2, .int (b2i v2)), (4, .int v59), (5, .int e65)] [] := by
              clear hd
              have hd := hd2
              refine v_iload X dX10_readDayLine_129 3 rfl ?_
              refine v_aload_n X dX10_readDayLine_131 0 0 rfl rfl ?_
              refine t_callV X hK hd (ct_X10_doors _ am) (lw_V q1986 q1988 qs57 q120 q1989) ⟨rfl, dn_X10_doors⟩ rfl ⟨by decide, by decide⟩ rfl (Nat.le_of_ble_eq_true rfl) dX10_readDayLine_132 (fun v70 ms hd => ?_)
              show V K 6 (mkM am hn ms) 135 [(0, .ref am), (2, .int (b2i v2)), (4, .int v59), (5, .int e65)] [.int v70, .int e65]
              refine v_icmp_ne (tgt := 144) X dX10_readDayLine_135 (by decide) (fun q => ?_) (fun q => ?_)
              · have hd := Tite_f q hd
                refine v_aload_n X dX10_readDayLine_144 0 0 rfl rfl ?_
                refine t_getA (j := 3) X rfl fl_X10_19 dX10_readDayLine_145 ?_
                refine v_iload X dX10_readDayLine_148 2 rfl ?_
                refine v_iload_n X dX10_readDayLine_150 1 2 rfl rfl ?_
                obtain ⟨u71, m1, hd, hd2⟩ := TM.bind_some hd
                have KJ : V K 6 (mkM am hn m1) 159 [(0, .ref am), (4, .int v59), (5, .int e65)] [.int u71, .int v59, .ref (am + (3 + 1))] := by
                  clear hd
                  have hd := hd2
                  refine t_iast (j := 3) X hd rfl dX10_readDayLine_159 (fun ms hd => ?_)
                  refine v_aload_n X dX10_readDayLine_160 0 0 rfl rfl ?_
                  refine t_getA (j := 3) X rfl fl_X10_19 dX10_readDayLine_161 ?_
                  refine v_iload X dX10_readDayLine_164 1 rfl ?_
                  refine v_iconst (v := 1) X dX10_readDayLine_166 (by decide) ?_
                  refine v_iadd X dX10_readDayLine_167 ?_
                  refine v_iload X dX10_readDayLine_168 2 rfl ?_
                  refine t_iast (j := 3) X hd rfl dX10_readDayLine_170 (fun ms hd => ?_)
                  refine v_aload_n X dX10_readDayLine_171 0 0 rfl rfl ?_
                  refine t_callV X hK hd (ct_X10_go _ am) (lw_V q1876 q1878 qs39 q120 q1879) ⟨rfl, dn_X10_go⟩ rfl ⟨by decide, by decide⟩ rfl (Nat.le_of_ble_eq_true rfl) dX10_readDayLine_172 (fun v72 ms hd => ?_)
                  show V K 6 (mkM am hn ms) 175 [(0, .ref am), (4, .int v59), (5, .int e65)] []
                  refine v_goto (tgt := 268) X dX10_readDayLine_175 (by decide) ?_
                  refine v_aload_n X dX10_readDayLine_268 0 0 rfl rfl ?_
                  refine v_dup X dX10_readDayLine_269 rfl ?_
                  refine t_getI X hd rfl fl_X10_393 dX10_readDayLine_270 (fun v73 hd => ?_)
                  refine v_iconst (v := 1) X dX10_readDayLine_273 (by decide) ?_
                  refine v_iadd X dX10_readDayLine_274 ?_
                  refine t_putI X hd rfl fp_X10_393 dX10_readDayLine_275 (fun ms hd => ?_)
                  refine v_aload_n X dX10_readDayLine_278 0 0 rfl rfl ?_
                  refine t_callV X hK hd (ct_X10_readEnd _ am) (lw_V q1958 q1960 qs53 q120 q1961) ⟨rfl, dn_X10_readEnd⟩ rfl ⟨by decide, by decide⟩ rfl (Nat.le_of_ble_eq_true rfl) dX10_readDayLine_279 (fun v74 ms hd => ?_)
                  show V K 6 (mkM am hn ms) 282 [(0, .ref am), (4, .int v59), (5, .int e65)] [.int (b2i v74)]
                  exact t_zret X hK hd rfl ho dX10_readDayLine_282
                clear hd2
                refine v_ifZ_eq (tgt := 158) X dX10_readDayLine_151 (by decide) (fun q => ?_) (fun q => ?_)
                · have hd := Tcnd_f q hd
                  refine v_iconst (v := 5) X dX10_readDayLine_158 (by decide) ?_
                  exact v_loc [0, 2, 3] rfl (t_at (P := fun (u71 : Int32) m => V K 6 (mkM am hn m) 159 [(0, .ref am), (4, .int v59), (5, .int e65)] [.int u71, .int v59, .ref (am + (3 + 1))]) hd KJ)
                · have hd := Tcnd_t q hd
                  refine v_iconst (v := 4) X dX10_readDayLine_154 (by decide) ?_
                  refine v_goto (tgt := 159) X dX10_readDayLine_155 (by decide) ?_
                  exact v_loc [0, 2, 3] rfl (t_at (P := fun (u71 : Int32) m => V K 6 (mkM am hn m) 159 [(0, .ref am), (4, .int v59), (5, .int e65)] [.int u71, .int v59, .ref (am + (3 + 1))]) hd KJ)
              · have hd := Tite_t q hd
                refine v_aload_n X dX10_readDayLine_138 0 0 rfl rfl ?_
                refine v_iconst (v := 3) X dX10_readDayLine_139 (by decide) ?_
                refine t_callV X hK hd (ct_X10_bad _ am 3) (lw_V q1913 q1915 qs44 q120 q1916) ⟨rfl, dn_X10_bad⟩ rfl ⟨by decide, by decide⟩ rfl (Nat.le_of_ble_eq_true rfl) dX10_readDayLine_140 (fun v75 ms hd => ?_)
                show V K 6 (mkM am hn ms) 143 [(0, .ref am), (2, .int (b2i v2)), (4, .int v59), (5, .int e65)] [.int (b2i v75)]
                exact t_zret X hK hd rfl ho dX10_readDayLine_143
            clear hd2
            refine v_loc [5, 3, 1, 0] rfl ?_
            refine Tloop_ind hd (fun (s62 : Int32) m => V K 6 (mkM am hn m) 99 [(0, .ref am), (2, .int (b2i v2)), (4, .int v59), (5, .int s62)] []) (fun s62 ms x m2 hd ih63 ho64 => ?_)
            refine v_iload X dX10_readDayLine_99 3 rfl ?_
            refine v_aload_n X dX10_readDayLine_101 0 0 rfl rfl ?_
            refine t_callV X hK hd (ct_X10_doors _ am) (lw_V q1986 q1988 qs57 q120 q1989) ⟨rfl, dn_X10_doors⟩ rfl ⟨by decide, by decide⟩ rfl (Nat.le_of_ble_eq_true rfl) dX10_readDayLine_102 (fun v66 ms hd => ?_)
            show V K 6 (mkM am hn ms) 105 [(0, .ref am), (2, .int (b2i v2)), (4, .int v59), (5, .int s62)] [.int v66, .int s62]
            refine v_icmp_ge (tgt := 129) X dX10_readDayLine_105 (by decide) (fun q => ?_) (fun q => ?_)
            · have hd := Tite_t q hd
              exact v_loc [0, 1, 2, 3] rfl (t_at (P := fun (e65 : Int32) m => V K 6 (mkM am hn m) 129 [(0, .ref am), (2, .int (b2i v2)), (4, .int v59), (5, .int e65)] []) (Tlp_out hd ho64) KX)
            · have hd := Tite_f q hd
              refine v_aload_n X dX10_readDayLine_108 0 0 rfl rfl ?_
              refine t_getA (j := 5) X rfl fl_X10_25 dX10_readDayLine_109 ?_
              refine v_iload X dX10_readDayLine_112 3 rfl ?_
              refine t_lald (j := 5) X hd rfl dX10_readDayLine_114 (fun v67 hd => ?_)
              refine v_aload_n X dX10_readDayLine_115 0 0 rfl rfl ?_
              refine t_getL X hd rfl fl_X10_144 dX10_readDayLine_116 (fun v68 hd => ?_)
              refine v_lcmp X dX10_readDayLine_119 ?_
              refine v_if_eq (tgt := 129) X dX10_readDayLine_120 (by decide) (fun q => ?_) (fun q => ?_)
              · have hd := Tite_t q hd
                exact v_loc [0, 1, 2, 3] rfl (t_at (P := fun (e65 : Int32) m => V K 6 (mkM am hn m) 129 [(0, .ref am), (2, .int (b2i v2)), (4, .int v59), (5, .int e65)] []) (Tlp_out hd ho64) KX)
              · have hd := Tite_f q hd
                refine t_iincL (lv2 := fun v69 => [(5, .int v69), (0, .ref am), (2, .int (b2i v2)), (4, .int v59)]) X hd dX10_readDayLine_123 3 rfl (by decide : Int32.ofInt 1 = 1) (by decide) (fun v69 => rfl) (fun v69 hd => ?_)
                refine v_goto (tgt := 99) X dX10_readDayLine_126 (by decide) ?_
                exact v_loc [1, 2, 3, 0] rfl (Tlp_in (P := fun (s62 : Int32) m => V K 6 (mkM am hn m) 99 [(0, .ref am), (2, .int (b2i v2)), (4, .int v59), (5, .int s62)] []) hd ih63)
          · have hd := Tcnd_f q hd
            refine v_aload_n X dX10_readDayLine_90 4 0 rfl rfl ?_
            refine v_iconst (v := 1) X dX10_readDayLine_91 (by decide) ?_
            refine t_callV X hK hd (ct_X10_bad _ am 1) (lw_V q1913 q1915 qs44 q120 q1916) ⟨rfl, dn_X10_bad⟩ rfl ⟨by decide, by decide⟩ rfl (Nat.le_of_ble_eq_true rfl) dX10_readDayLine_92 (fun v76 ms hd => ?_)
            show V K 6 (mkM am hn ms) 95 [(4, .int v59), (3, .int (b2i v3)), (2, .int (b2i v2)), (1, .int (b2i v1)), (0, .ref am)] [.int (b2i v76)]
            exact t_zret X hK hd rfl ho dX10_readDayLine_95
        · have hd := Tcnd_f q hd
          refine v_iload_n X dX10_readDayLine_79 1 3 rfl rfl ?_
          refine v_ifZ_eq (tgt := 178) X dX10_readDayLine_80 (by decide) (fun q => ?_) (fun q => ?_)
          · have hd := Tcnd_f q hd
            refine v_aload_n X dX10_readDayLine_178 4 0 rfl rfl ?_
            refine t_getA (j := 3) X rfl fl_X10_19 dX10_readDayLine_179 ?_
            refine v_iload X dX10_readDayLine_182 0 rfl ?_
            refine v_bipush (v := 6) X dX10_readDayLine_184 (by decide) ?_
            refine t_iast (j := 3) X hd rfl dX10_readDayLine_186 (fun ms hd => ?_)
            refine v_iload_n X dX10_readDayLine_187 3 1 rfl rfl ?_
            refine v_ifZ_eq (tgt := 243) X dX10_readDayLine_188 (by decide) (fun q => ?_) (fun q => ?_)
            · have hd := Tcnd_f q hd
              refine v_aload_n X dX10_readDayLine_243 4 0 rfl rfl ?_
              refine v_iconst (v := 1) X dX10_readDayLine_244 (by decide) ?_
              refine v_bipush (v := 30) X dX10_readDayLine_245 (by decide) ?_
              refine t_callV X hK hd (ct_X10_readNumber _ am 1 30) (lw_V q1936 q1938 qs49 q120 q1939) ⟨rfl, dn_X10_readNumber⟩ rfl ⟨by decide, by decide⟩ rfl (Nat.le_of_ble_eq_true rfl) dX10_readDayLine_247 (fun v77 ms hd => ?_)
              show V K 6 (mkM am hn ms) 250 [(4, .int v59), (3, .int (b2i v3)), (2, .int (b2i v2)), (1, .int (b2i v1)), (0, .ref am)] [.int (b2i v77)]
              refine v_ifZ_ne (tgt := 255) X dX10_readDayLine_250 (by decide) (fun q => ?_) (fun q => ?_)
              · have hd := Tcnd_t q hd
                refine v_aload_n X dX10_readDayLine_255 4 0 rfl rfl ?_
                refine t_getA (j := 3) X rfl fl_X10_19 dX10_readDayLine_256 ?_
                refine v_iload X dX10_readDayLine_259 0 rfl ?_
                refine v_iconst (v := 1) X dX10_readDayLine_261 (by decide) ?_
                refine v_iadd X dX10_readDayLine_262 ?_
                refine v_aload_n X dX10_readDayLine_263 4 0 rfl rfl ?_
                refine t_getI X hd rfl fl_X10_191 dX10_readDayLine_264 (fun v78 hd => ?_)
                refine t_iast (j := 3) X hd rfl dX10_readDayLine_267 (fun ms hd => ?_)
                refine v_aload_n X dX10_readDayLine_268 4 0 rfl rfl ?_
                refine v_dup X dX10_readDayLine_269 rfl ?_
                refine t_getI X hd rfl fl_X10_393 dX10_readDayLine_270 (fun v79 hd => ?_)
                refine v_iconst (v := 1) X dX10_readDayLine_273 (by decide) ?_
                refine v_iadd X dX10_readDayLine_274 ?_
                refine t_putI X hd rfl fp_X10_393 dX10_readDayLine_275 (fun ms hd => ?_)
                refine v_aload_n X dX10_readDayLine_278 4 0 rfl rfl ?_
                refine t_callV X hK hd (ct_X10_readEnd _ am) (lw_V q1958 q1960 qs53 q120 q1961) ⟨rfl, dn_X10_readEnd⟩ rfl ⟨by decide, by decide⟩ rfl (Nat.le_of_ble_eq_true rfl) dX10_readDayLine_279 (fun v80 ms hd => ?_)
                show V K 6 (mkM am hn ms) 282 [(4, .int v59), (3, .int (b2i v3)), (2, .int (b2i v2)), (1, .int (b2i v1)), (0, .ref am)] [.int (b2i v80)]
                exact t_zret X hK hd rfl ho dX10_readDayLine_282
              · have hd := Tcnd_f q hd
                refine v_iconst (v := 0) X dX10_readDayLine_253 (by decide) ?_
                exact t_zret X hK hd rfl ho dX10_readDayLine_254
            · have hd := Tcnd_t q hd
              refine v_iconst (v := 0) X dX10_readDayLine_191 (by decide) ?_
              refine v_istore (lv2 := [(5, .int 0), (4, .int v59), (3, .int (b2i v3)), (2, .int (b2i v2)), (1, .int (b2i v1)), (0, .ref am)]) X dX10_readDayLine_192 (by decide) rfl ?_
              obtain ⟨e84, m1, hd, hd2⟩ := TM.bind_some hd
              have KX : V K 6 (mkM am hn m1) 218 [(0, .ref am), (4, .int v59), (5, .int e84)] [] := by
                clear hd
                have hd := hd2
                refine v_iload X dX10_readDayLine_218 2 rfl ?_
                refine v_iconst (v := 4) X dX10_readDayLine_220 (by decide) ?_
                refine v_icmp_ne (tgt := 230) X dX10_readDayLine_221 (by decide) (fun q => ?_) (fun q => ?_)
                · have hd := Tite_f q hd
                  refine v_aload_n X dX10_readDayLine_230 0 0 rfl rfl ?_
                  refine t_getA (j := 3) X rfl fl_X10_19 dX10_readDayLine_231 ?_
                  refine v_iload X dX10_readDayLine_234 1 rfl ?_
                  refine v_iload X dX10_readDayLine_236 2 rfl ?_
                  refine t_iast (j := 3) X hd rfl dX10_readDayLine_238 (fun ms hd => ?_)
                  refine v_aload_n X dX10_readDayLine_239 0 0 rfl rfl ?_
                  refine t_callV X hK hd (ct_X10_go _ am) (lw_V q1876 q1878 qs39 q120 q1879) ⟨rfl, dn_X10_go⟩ rfl ⟨by decide, by decide⟩ rfl (Nat.le_of_ble_eq_true rfl) dX10_readDayLine_240 (fun v87 ms hd => ?_)
                  show V K 6 (mkM am hn ms) 243 [(0, .ref am), (4, .int v59), (5, .int e84)] []
                  refine v_aload_n X dX10_readDayLine_243 0 0 rfl rfl ?_
                  refine v_iconst (v := 1) X dX10_readDayLine_244 (by decide) ?_
                  refine v_bipush (v := 30) X dX10_readDayLine_245 (by decide) ?_
                  refine t_callV X hK hd (ct_X10_readNumber _ am 1 30) (lw_V q1936 q1938 qs49 q120 q1939) ⟨rfl, dn_X10_readNumber⟩ rfl ⟨by decide, by decide⟩ rfl (Nat.le_of_ble_eq_true rfl) dX10_readDayLine_247 (fun v88 ms hd => ?_)
                  show V K 6 (mkM am hn ms) 250 [(0, .ref am), (4, .int v59), (5, .int e84)] [.int (b2i v88)]
                  refine v_ifZ_ne (tgt := 255) X dX10_readDayLine_250 (by decide) (fun q => ?_) (fun q => ?_)
                  · have hd := Tcnd_t q hd
                    refine v_aload_n X dX10_readDayLine_255 0 0 rfl rfl ?_
                    refine t_getA (j := 3) X rfl fl_X10_19 dX10_readDayLine_256 ?_
                    refine v_iload X dX10_readDayLine_259 1 rfl ?_
                    refine v_iconst (v := 1) X dX10_readDayLine_261 (by decide) ?_
                    refine v_iadd X dX10_readDayLine_262 ?_
                    refine v_aload_n X dX10_readDayLine_263 0 0 rfl rfl ?_
                    refine t_getI X hd rfl fl_X10_191 dX10_readDayLine_264 (fun v89 hd => ?_)
                    refine t_iast (j := 3) X hd rfl dX10_readDayLine_267 (fun ms hd => ?_)
                    refine v_aload_n X dX10_readDayLine_268 0 0 rfl rfl ?_
                    refine v_dup X dX10_readDayLine_269 rfl ?_
                    refine t_getI X hd rfl fl_X10_393 dX10_readDayLine_270 (fun v90 hd => ?_)
                    refine v_iconst (v := 1) X dX10_readDayLine_273 (by decide) ?_
                    refine v_iadd X dX10_readDayLine_274 ?_
                    refine t_putI X hd rfl fp_X10_393 dX10_readDayLine_275 (fun ms hd => ?_)
                    refine v_aload_n X dX10_readDayLine_278 0 0 rfl rfl ?_
                    refine t_callV X hK hd (ct_X10_readEnd _ am) (lw_V q1958 q1960 qs53 q120 q1961) ⟨rfl, dn_X10_readEnd⟩ rfl ⟨by decide, by decide⟩ rfl (Nat.le_of_ble_eq_true rfl) dX10_readDayLine_279 (fun v91 ms hd => ?_)
                    show V K 6 (mkM am hn ms) 282 [(0, .ref am), (4, .int v59), (5, .int e84)] [.int (b2i v91)]
                    exact t_zret X hK hd rfl ho dX10_readDayLine_282
                  · have hd := Tcnd_f q hd
                    refine v_iconst (v := 0) X dX10_readDayLine_253 (by decide) ?_
                    exact t_zret X hK hd rfl ho dX10_readDayLine_254
                · have hd := Tite_t q hd
                  refine v_aload_n X dX10_readDayLine_224 0 0 rfl rfl ?_
                  refine v_iconst (v := 1) X dX10_readDayLine_225 (by decide) ?_
                  refine t_callV X hK hd (ct_X10_bad _ am 1) (lw_V q1913 q1915 qs44 q120 q1916) ⟨rfl, dn_X10_bad⟩ rfl ⟨by decide, by decide⟩ rfl (Nat.le_of_ble_eq_true rfl) dX10_readDayLine_226 (fun v92 ms hd => ?_)
                  show V K 6 (mkM am hn ms) 229 [(0, .ref am), (4, .int v59), (5, .int e84)] [.int (b2i v92)]
                  exact t_zret X hK hd rfl ho dX10_readDayLine_229
              clear hd2
              refine v_loc [5, 1, 0] rfl ?_
              refine Tloop_ind hd (fun (s81 : Int32) m => V K 6 (mkM am hn m) 194 [(0, .ref am), (4, .int v59), (5, .int s81)] []) (fun s81 ms x m2 hd ih82 ho83 => ?_)
              refine v_iload X dX10_readDayLine_194 2 rfl ?_
              refine v_iconst (v := 4) X dX10_readDayLine_196 (by decide) ?_
              refine v_icmp_ge (tgt := 218) X dX10_readDayLine_197 (by decide) (fun q => ?_) (fun q => ?_)
              · have hd := Tite_t q hd
                exact v_loc [0, 1, 2] rfl (t_at (P := fun (e84 : Int32) m => V K 6 (mkM am hn m) 218 [(0, .ref am), (4, .int v59), (5, .int e84)] []) (Tlp_out hd ho83) KX)
              · have hd := Tite_f q hd
                refine v_aload_n X dX10_readDayLine_200 0 0 rfl rfl ?_
                refine v_bipush (v := 13) X dX10_readDayLine_201 (by decide) ?_
                refine v_iload X dX10_readDayLine_203 2 rfl ?_
                refine v_iadd X dX10_readDayLine_205 ?_
                refine t_callV X hK hd (ct_X10_isWord _ am (13 + s81)) (lw_V q1896 q1898 qs42 q120 q1899) ⟨rfl, dn_X10_isWord⟩ rfl ⟨by decide, by decide⟩ rfl (Nat.le_of_ble_eq_true rfl) dX10_readDayLine_206 (fun v85 ms hd => ?_)
                show V K 6 (mkM am hn ms) 209 [(0, .ref am), (4, .int v59), (5, .int s81)] [.int (b2i v85)]
                refine v_ifZ_ne (tgt := 218) X dX10_readDayLine_209 (by decide) (fun q => ?_) (fun q => ?_)
                · have hd := Tcnd_t q hd
                  exact v_loc [0, 1, 2] rfl (t_at (P := fun (e84 : Int32) m => V K 6 (mkM am hn m) 218 [(0, .ref am), (4, .int v59), (5, .int e84)] []) (Tlp_out hd ho83) KX)
                · have hd := Tcnd_f q hd
                  refine t_iincL (lv2 := fun v86 => [(5, .int v86), (0, .ref am), (4, .int v59)]) X hd dX10_readDayLine_212 2 rfl (by decide : Int32.ofInt 1 = 1) (by decide) (fun v86 => rfl) (fun v86 hd => ?_)
                  refine v_goto (tgt := 194) X dX10_readDayLine_215 (by decide) ?_
                  exact v_loc [1, 2, 0] rfl (Tlp_in (P := fun (s81 : Int32) m => V K 6 (mkM am hn m) 194 [(0, .ref am), (4, .int v59), (5, .int s81)] []) hd ih82)
          · have hd := Tcnd_t q hd
            refine v_aload_n X dX10_readDayLine_83 4 0 rfl rfl ?_
            refine t_callV X hK hd (ct_X10_isName _ am) (lw_V q1928 q1930 qs47 q120 q1931) ⟨rfl, dn_X10_isName⟩ rfl ⟨by decide, by decide⟩ rfl (Nat.le_of_ble_eq_true rfl) dX10_readDayLine_84 (fun v93 ms hd => ?_)
            show V K 6 (mkM am hn ms) 87 [(4, .int v59), (3, .int (b2i v3)), (2, .int (b2i v2)), (1, .int (b2i v1)), (0, .ref am)] [.int (b2i v93)]
            refine v_ifZ_ne (tgt := 96) X dX10_readDayLine_87 (by decide) (fun q => ?_) (fun q => ?_)
            · have hd := Tcnd_t q hd
              refine v_iconst (v := 0) X dX10_readDayLine_96 (by decide) ?_
              refine v_istore (lv2 := [(5, .int 0), (4, .int v59), (3, .int (b2i v3)), (2, .int (b2i v2)), (1, .int (b2i v1)), (0, .ref am)]) X dX10_readDayLine_97 (by decide) rfl ?_
              obtain ⟨e97, m1, hd, hd2⟩ := TM.bind_some hd
              have KX : V K 6 (mkM am hn m1) 129 [(0, .ref am), (2, .int (b2i v2)), (4, .int v59), (5, .int e97)] [] := by
                clear hd
                have hd := hd2
                refine v_iload X dX10_readDayLine_129 3 rfl ?_
                refine v_aload_n X dX10_readDayLine_131 0 0 rfl rfl ?_
                refine t_callV X hK hd (ct_X10_doors _ am) (lw_V q1986 q1988 qs57 q120 q1989) ⟨rfl, dn_X10_doors⟩ rfl ⟨by decide, by decide⟩ rfl (Nat.le_of_ble_eq_true rfl) dX10_readDayLine_132 (fun v102 ms hd => ?_)
                show V K 6 (mkM am hn ms) 135 [(0, .ref am), (2, .int (b2i v2)), (4, .int v59), (5, .int e97)] [.int v102, .int e97]
                refine v_icmp_ne (tgt := 144) X dX10_readDayLine_135 (by decide) (fun q => ?_) (fun q => ?_)
                · have hd := Tite_f q hd
                  refine v_aload_n X dX10_readDayLine_144 0 0 rfl rfl ?_
                  refine t_getA (j := 3) X rfl fl_X10_19 dX10_readDayLine_145 ?_
                  refine v_iload X dX10_readDayLine_148 2 rfl ?_
                  refine v_iload_n X dX10_readDayLine_150 1 2 rfl rfl ?_
                  obtain ⟨u103, m1, hd, hd2⟩ := TM.bind_some hd
                  have KJ : V K 6 (mkM am hn m1) 159 [(0, .ref am), (4, .int v59), (5, .int e97)] [.int u103, .int v59, .ref (am + (3 + 1))] := by
                    clear hd
                    have hd := hd2
                    refine t_iast (j := 3) X hd rfl dX10_readDayLine_159 (fun ms hd => ?_)
                    refine v_aload_n X dX10_readDayLine_160 0 0 rfl rfl ?_
                    refine t_getA (j := 3) X rfl fl_X10_19 dX10_readDayLine_161 ?_
                    refine v_iload X dX10_readDayLine_164 1 rfl ?_
                    refine v_iconst (v := 1) X dX10_readDayLine_166 (by decide) ?_
                    refine v_iadd X dX10_readDayLine_167 ?_
                    refine v_iload X dX10_readDayLine_168 2 rfl ?_
                    refine t_iast (j := 3) X hd rfl dX10_readDayLine_170 (fun ms hd => ?_)
                    refine v_aload_n X dX10_readDayLine_171 0 0 rfl rfl ?_
                    refine t_callV X hK hd (ct_X10_go _ am) (lw_V q1876 q1878 qs39 q120 q1879) ⟨rfl, dn_X10_go⟩ rfl ⟨by decide, by decide⟩ rfl (Nat.le_of_ble_eq_true rfl) dX10_readDayLine_172 (fun v104 ms hd => ?_)
                    show V K 6 (mkM am hn ms) 175 [(0, .ref am), (4, .int v59), (5, .int e97)] []
                    refine v_goto (tgt := 268) X dX10_readDayLine_175 (by decide) ?_
                    refine v_aload_n X dX10_readDayLine_268 0 0 rfl rfl ?_
                    refine v_dup X dX10_readDayLine_269 rfl ?_
                    refine t_getI X hd rfl fl_X10_393 dX10_readDayLine_270 (fun v105 hd => ?_)
                    refine v_iconst (v := 1) X dX10_readDayLine_273 (by decide) ?_
                    refine v_iadd X dX10_readDayLine_274 ?_
                    refine t_putI X hd rfl fp_X10_393 dX10_readDayLine_275 (fun ms hd => ?_)
                    refine v_aload_n X dX10_readDayLine_278 0 0 rfl rfl ?_
                    refine t_callV X hK hd (ct_X10_readEnd _ am) (lw_V q1958 q1960 qs53 q120 q1961) ⟨rfl, dn_X10_readEnd⟩ rfl ⟨by decide, by decide⟩ rfl (Nat.le_of_ble_eq_true rfl) dX10_readDayLine_279 (fun v106 ms hd => ?_)
                    show V K 6 (mkM am hn ms) 282 [(0, .ref am), (4, .int v59), (5, .int e97)] [.int (b2i v106)]
                    exact t_zret X hK hd rfl ho dX10_readDayLine_282
                  clear hd2
                  refine v_ifZ_eq (tgt := 158) X dX10_readDayLine_151 (by decide) (fun q => ?_) (fun q => ?_)
                  · have hd := Tcnd_f q hd
                    refine v_iconst (v := 5) X dX10_readDayLine_158 (by decide) ?_
                    exact v_loc [0, 2, 3] rfl (t_at (P := fun (u103 : Int32) m => V K 6 (mkM am hn m) 159 [(0, .ref am), (4, .int v59), (5, .int e97)] [.int u103, .int v59, .ref (am + (3 + 1))]) hd KJ)
                  · have hd := Tcnd_t q hd
                    refine v_iconst (v := 4) X dX10_readDayLine_154 (by decide) ?_
                    refine v_goto (tgt := 159) X dX10_readDayLine_155 (by decide) ?_
                    exact v_loc [0, 2, 3] rfl (t_at (P := fun (u103 : Int32) m => V K 6 (mkM am hn m) 159 [(0, .ref am), (4, .int v59), (5, .int e97)] [.int u103, .int v59, .ref (am + (3 + 1))]) hd KJ)
                · have hd := Tite_t q hd
                  refine v_aload_n X dX10_readDayLine_138 0 0 rfl rfl ?_
                  refine v_iconst (v := 3) X dX10_readDayLine_139 (by decide) ?_
                  refine t_callV X hK hd (ct_X10_bad _ am 3) (lw_V q1913 q1915 qs44 q120 q1916) ⟨rfl, dn_X10_bad⟩ rfl ⟨by decide, by decide⟩ rfl (Nat.le_of_ble_eq_true rfl) dX10_readDayLine_140 (fun v107 ms hd => ?_)
                  show V K 6 (mkM am hn ms) 143 [(0, .ref am), (2, .int (b2i v2)), (4, .int v59), (5, .int e97)] [.int (b2i v107)]
                  exact t_zret X hK hd rfl ho dX10_readDayLine_143
              clear hd2
              refine v_loc [5, 3, 1, 0] rfl ?_
              refine Tloop_ind hd (fun (s94 : Int32) m => V K 6 (mkM am hn m) 99 [(0, .ref am), (2, .int (b2i v2)), (4, .int v59), (5, .int s94)] []) (fun s94 ms x m2 hd ih95 ho96 => ?_)
              refine v_iload X dX10_readDayLine_99 3 rfl ?_
              refine v_aload_n X dX10_readDayLine_101 0 0 rfl rfl ?_
              refine t_callV X hK hd (ct_X10_doors _ am) (lw_V q1986 q1988 qs57 q120 q1989) ⟨rfl, dn_X10_doors⟩ rfl ⟨by decide, by decide⟩ rfl (Nat.le_of_ble_eq_true rfl) dX10_readDayLine_102 (fun v98 ms hd => ?_)
              show V K 6 (mkM am hn ms) 105 [(0, .ref am), (2, .int (b2i v2)), (4, .int v59), (5, .int s94)] [.int v98, .int s94]
              refine v_icmp_ge (tgt := 129) X dX10_readDayLine_105 (by decide) (fun q => ?_) (fun q => ?_)
              · have hd := Tite_t q hd
                exact v_loc [0, 1, 2, 3] rfl (t_at (P := fun (e97 : Int32) m => V K 6 (mkM am hn m) 129 [(0, .ref am), (2, .int (b2i v2)), (4, .int v59), (5, .int e97)] []) (Tlp_out hd ho96) KX)
              · have hd := Tite_f q hd
                refine v_aload_n X dX10_readDayLine_108 0 0 rfl rfl ?_
                refine t_getA (j := 5) X rfl fl_X10_25 dX10_readDayLine_109 ?_
                refine v_iload X dX10_readDayLine_112 3 rfl ?_
                refine t_lald (j := 5) X hd rfl dX10_readDayLine_114 (fun v99 hd => ?_)
                refine v_aload_n X dX10_readDayLine_115 0 0 rfl rfl ?_
                refine t_getL X hd rfl fl_X10_144 dX10_readDayLine_116 (fun v100 hd => ?_)
                refine v_lcmp X dX10_readDayLine_119 ?_
                refine v_if_eq (tgt := 129) X dX10_readDayLine_120 (by decide) (fun q => ?_) (fun q => ?_)
                · have hd := Tite_t q hd
                  exact v_loc [0, 1, 2, 3] rfl (t_at (P := fun (e97 : Int32) m => V K 6 (mkM am hn m) 129 [(0, .ref am), (2, .int (b2i v2)), (4, .int v59), (5, .int e97)] []) (Tlp_out hd ho96) KX)
                · have hd := Tite_f q hd
                  refine t_iincL (lv2 := fun v101 => [(5, .int v101), (0, .ref am), (2, .int (b2i v2)), (4, .int v59)]) X hd dX10_readDayLine_123 3 rfl (by decide : Int32.ofInt 1 = 1) (by decide) (fun v101 => rfl) (fun v101 hd => ?_)
                  refine v_goto (tgt := 99) X dX10_readDayLine_126 (by decide) ?_
                  exact v_loc [1, 2, 3, 0] rfl (Tlp_in (P := fun (s94 : Int32) m => V K 6 (mkM am hn m) 99 [(0, .ref am), (2, .int (b2i v2)), (4, .int v59), (5, .int s94)] []) hd ih95)
            · have hd := Tcnd_f q hd
              refine v_aload_n X dX10_readDayLine_90 4 0 rfl rfl ?_
              refine v_iconst (v := 1) X dX10_readDayLine_91 (by decide) ?_
              refine t_callV X hK hd (ct_X10_bad _ am 1) (lw_V q1913 q1915 qs44 q120 q1916) ⟨rfl, dn_X10_bad⟩ rfl ⟨by decide, by decide⟩ rfl (Nat.le_of_ble_eq_true rfl) dX10_readDayLine_92 (fun v108 ms hd => ?_)
              show V K 6 (mkM am hn ms) 95 [(4, .int v59), (3, .int (b2i v3)), (2, .int (b2i v2)), (1, .int (b2i v1)), (0, .ref am)] [.int (b2i v108)]
              exact t_zret X hK hd rfl ho dX10_readDayLine_95
      · have hd := Tite_t q hd
        refine v_aload_n X dX10_readDayLine_57 3 0 rfl rfl ?_
        refine v_iconst (v := 4) X dX10_readDayLine_58 (by decide) ?_
        refine t_callV X hK hd (ct_X10_bad _ am 4) (lw_V q1913 q1915 qs44 q120 q1916) ⟨rfl, dn_X10_bad⟩ rfl ⟨by decide, by decide⟩ rfl (Nat.le_of_ble_eq_true rfl) dX10_readDayLine_59 (fun v109 ms hd => ?_)
        show V K 6 (mkM am hn ms) 62 [(3, .int (b2i v3)), (2, .int (b2i v2)), (1, .int (b2i v1)), (0, .ref am)] [.int (b2i v109)]
        exact t_zret X hK hd rfl ho dX10_readDayLine_62
    · have hd := Tcnd_f q hd
      refine v_iload_n X dX10_readDayLine_29 0 3 rfl rfl ?_
      refine v_ifZ_ne (tgt := 48) X dX10_readDayLine_30 (by decide) (fun q => ?_) (fun q => ?_)
      · have hd := Tcnd_t q hd
        refine v_aload_n X dX10_readDayLine_48 3 0 rfl rfl ?_
        refine t_getI X hd rfl fl_X10_393 dX10_readDayLine_49 (fun v110 hd => ?_)
        refine v_bipush (v := 60) X dX10_readDayLine_52 (by decide) ?_
        refine v_icmp_ne (tgt := 63) X dX10_readDayLine_54 (by decide) (fun q => ?_) (fun q => ?_)
        · have hd := Tite_f q hd
          refine v_iconst (v := 2) X dX10_readDayLine_63 (by decide) ?_
          refine v_aload_n X dX10_readDayLine_64 3 0 rfl rfl ?_
          refine t_getI X hd rfl fl_X10_393 dX10_readDayLine_65 (fun v111 hd => ?_)
          refine v_imul X dX10_readDayLine_68 ?_
          refine t_lvI hd (fun v112 hd => ?_)
          refine v_istore (lv2 := [(4, .int v112), (3, .int (b2i v3)), (2, .int (b2i v2)), (1, .int (b2i v1)), (0, .ref am)]) X dX10_readDayLine_69 (by decide) rfl ?_
          refine v_aload_n X dX10_readDayLine_71 4 0 rfl rfl ?_
          refine t_callV X hK hd (ct_X10_go _ am) (lw_V q1876 q1878 qs39 q120 q1879) ⟨rfl, dn_X10_go⟩ rfl ⟨by decide, by decide⟩ rfl (Nat.le_of_ble_eq_true rfl) dX10_readDayLine_72 (fun v113 ms hd => ?_)
          show V K 6 (mkM am hn ms) 75 [(4, .int v112), (3, .int (b2i v3)), (2, .int (b2i v2)), (1, .int (b2i v1)), (0, .ref am)] []
          refine v_iload_n X dX10_readDayLine_75 2 2 rfl rfl ?_
          refine v_ifZ_ne (tgt := 83) X dX10_readDayLine_76 (by decide) (fun q => ?_) (fun q => ?_)
          · have hd := Tcnd_t q hd
            refine v_aload_n X dX10_readDayLine_83 4 0 rfl rfl ?_
            refine t_callV X hK hd (ct_X10_isName _ am) (lw_V q1928 q1930 qs47 q120 q1931) ⟨rfl, dn_X10_isName⟩ rfl ⟨by decide, by decide⟩ rfl (Nat.le_of_ble_eq_true rfl) dX10_readDayLine_84 (fun v114 ms hd => ?_)
            show V K 6 (mkM am hn ms) 87 [(4, .int v112), (3, .int (b2i v3)), (2, .int (b2i v2)), (1, .int (b2i v1)), (0, .ref am)] [.int (b2i v114)]
            refine v_ifZ_ne (tgt := 96) X dX10_readDayLine_87 (by decide) (fun q => ?_) (fun q => ?_)
            · have hd := Tcnd_t q hd
              refine v_iconst (v := 0) X dX10_readDayLine_96 (by decide) ?_
              refine v_istore (lv2 := [(5, .int 0), (4, .int v112), (3, .int (b2i v3)), (2, .int (b2i v2)), (1, .int (b2i v1)), (0, .ref am)]) X dX10_readDayLine_97 (by decide) rfl ?_
              obtain ⟨e118, m1, hd, hd2⟩ := TM.bind_some hd
              have KX : V K 6 (mkM am hn m1) 129 [(0, .ref am), (2, .int (b2i v2)), (4, .int v112), (5, .int e118)] [] := by
                clear hd
                have hd := hd2
                refine v_iload X dX10_readDayLine_129 3 rfl ?_
                refine v_aload_n X dX10_readDayLine_131 0 0 rfl rfl ?_
                refine t_callV X hK hd (ct_X10_doors _ am) (lw_V q1986 q1988 qs57 q120 q1989) ⟨rfl, dn_X10_doors⟩ rfl ⟨by decide, by decide⟩ rfl (Nat.le_of_ble_eq_true rfl) dX10_readDayLine_132 (fun v123 ms hd => ?_)
                show V K 6 (mkM am hn ms) 135 [(0, .ref am), (2, .int (b2i v2)), (4, .int v112), (5, .int e118)] [.int v123, .int e118]
                refine v_icmp_ne (tgt := 144) X dX10_readDayLine_135 (by decide) (fun q => ?_) (fun q => ?_)
                · have hd := Tite_f q hd
                  refine v_aload_n X dX10_readDayLine_144 0 0 rfl rfl ?_
                  refine t_getA (j := 3) X rfl fl_X10_19 dX10_readDayLine_145 ?_
                  refine v_iload X dX10_readDayLine_148 2 rfl ?_
                  refine v_iload_n X dX10_readDayLine_150 1 2 rfl rfl ?_
                  obtain ⟨u124, m1, hd, hd2⟩ := TM.bind_some hd
                  have KJ : V K 6 (mkM am hn m1) 159 [(0, .ref am), (4, .int v112), (5, .int e118)] [.int u124, .int v112, .ref (am + (3 + 1))] := by
                    clear hd
                    have hd := hd2
                    refine t_iast (j := 3) X hd rfl dX10_readDayLine_159 (fun ms hd => ?_)
                    refine v_aload_n X dX10_readDayLine_160 0 0 rfl rfl ?_
                    refine t_getA (j := 3) X rfl fl_X10_19 dX10_readDayLine_161 ?_
                    refine v_iload X dX10_readDayLine_164 1 rfl ?_
                    refine v_iconst (v := 1) X dX10_readDayLine_166 (by decide) ?_
                    refine v_iadd X dX10_readDayLine_167 ?_
                    refine v_iload X dX10_readDayLine_168 2 rfl ?_
                    refine t_iast (j := 3) X hd rfl dX10_readDayLine_170 (fun ms hd => ?_)
                    refine v_aload_n X dX10_readDayLine_171 0 0 rfl rfl ?_
                    refine t_callV X hK hd (ct_X10_go _ am) (lw_V q1876 q1878 qs39 q120 q1879) ⟨rfl, dn_X10_go⟩ rfl ⟨by decide, by decide⟩ rfl (Nat.le_of_ble_eq_true rfl) dX10_readDayLine_172 (fun v125 ms hd => ?_)
                    show V K 6 (mkM am hn ms) 175 [(0, .ref am), (4, .int v112), (5, .int e118)] []
                    refine v_goto (tgt := 268) X dX10_readDayLine_175 (by decide) ?_
                    refine v_aload_n X dX10_readDayLine_268 0 0 rfl rfl ?_
                    refine v_dup X dX10_readDayLine_269 rfl ?_
                    refine t_getI X hd rfl fl_X10_393 dX10_readDayLine_270 (fun v126 hd => ?_)
                    refine v_iconst (v := 1) X dX10_readDayLine_273 (by decide) ?_
                    refine v_iadd X dX10_readDayLine_274 ?_
                    refine t_putI X hd rfl fp_X10_393 dX10_readDayLine_275 (fun ms hd => ?_)
                    refine v_aload_n X dX10_readDayLine_278 0 0 rfl rfl ?_
                    refine t_callV X hK hd (ct_X10_readEnd _ am) (lw_V q1958 q1960 qs53 q120 q1961) ⟨rfl, dn_X10_readEnd⟩ rfl ⟨by decide, by decide⟩ rfl (Nat.le_of_ble_eq_true rfl) dX10_readDayLine_279 (fun v127 ms hd => ?_)
                    show V K 6 (mkM am hn ms) 282 [(0, .ref am), (4, .int v112), (5, .int e118)] [.int (b2i v127)]
                    exact t_zret X hK hd rfl ho dX10_readDayLine_282
                  clear hd2
                  refine v_ifZ_eq (tgt := 158) X dX10_readDayLine_151 (by decide) (fun q => ?_) (fun q => ?_)
                  · have hd := Tcnd_f q hd
                    refine v_iconst (v := 5) X dX10_readDayLine_158 (by decide) ?_
                    exact v_loc [0, 2, 3] rfl (t_at (P := fun (u124 : Int32) m => V K 6 (mkM am hn m) 159 [(0, .ref am), (4, .int v112), (5, .int e118)] [.int u124, .int v112, .ref (am + (3 + 1))]) hd KJ)
                  · have hd := Tcnd_t q hd
                    refine v_iconst (v := 4) X dX10_readDayLine_154 (by decide) ?_
                    refine v_goto (tgt := 159) X dX10_readDayLine_155 (by decide) ?_
                    exact v_loc [0, 2, 3] rfl (t_at (P := fun (u124 : Int32) m => V K 6 (mkM am hn m) 159 [(0, .ref am), (4, .int v112), (5, .int e118)] [.int u124, .int v112, .ref (am + (3 + 1))]) hd KJ)
                · have hd := Tite_t q hd
                  refine v_aload_n X dX10_readDayLine_138 0 0 rfl rfl ?_
                  refine v_iconst (v := 3) X dX10_readDayLine_139 (by decide) ?_
                  refine t_callV X hK hd (ct_X10_bad _ am 3) (lw_V q1913 q1915 qs44 q120 q1916) ⟨rfl, dn_X10_bad⟩ rfl ⟨by decide, by decide⟩ rfl (Nat.le_of_ble_eq_true rfl) dX10_readDayLine_140 (fun v128 ms hd => ?_)
                  show V K 6 (mkM am hn ms) 143 [(0, .ref am), (2, .int (b2i v2)), (4, .int v112), (5, .int e118)] [.int (b2i v128)]
                  exact t_zret X hK hd rfl ho dX10_readDayLine_143
              clear hd2
              refine v_loc [5, 3, 1, 0] rfl ?_
              refine Tloop_ind hd (fun (s115 : Int32) m => V K 6 (mkM am hn m) 99 [(0, .ref am), (2, .int (b2i v2)), (4, .int v112), (5, .int s115)] []) (fun s115 ms x m2 hd ih116 ho117 => ?_)
              refine v_iload X dX10_readDayLine_99 3 rfl ?_
              refine v_aload_n X dX10_readDayLine_101 0 0 rfl rfl ?_
              refine t_callV X hK hd (ct_X10_doors _ am) (lw_V q1986 q1988 qs57 q120 q1989) ⟨rfl, dn_X10_doors⟩ rfl ⟨by decide, by decide⟩ rfl (Nat.le_of_ble_eq_true rfl) dX10_readDayLine_102 (fun v119 ms hd => ?_)
              show V K 6 (mkM am hn ms) 105 [(0, .ref am), (2, .int (b2i v2)), (4, .int v112), (5, .int s115)] [.int v119, .int s115]
              refine v_icmp_ge (tgt := 129) X dX10_readDayLine_105 (by decide) (fun q => ?_) (fun q => ?_)
              · have hd := Tite_t q hd
                exact v_loc [0, 1, 2, 3] rfl (t_at (P := fun (e118 : Int32) m => V K 6 (mkM am hn m) 129 [(0, .ref am), (2, .int (b2i v2)), (4, .int v112), (5, .int e118)] []) (Tlp_out hd ho117) KX)
              · have hd := Tite_f q hd
                refine v_aload_n X dX10_readDayLine_108 0 0 rfl rfl ?_
                refine t_getA (j := 5) X rfl fl_X10_25 dX10_readDayLine_109 ?_
                refine v_iload X dX10_readDayLine_112 3 rfl ?_
                refine t_lald (j := 5) X hd rfl dX10_readDayLine_114 (fun v120 hd => ?_)
                refine v_aload_n X dX10_readDayLine_115 0 0 rfl rfl ?_
                refine t_getL X hd rfl fl_X10_144 dX10_readDayLine_116 (fun v121 hd => ?_)
                refine v_lcmp X dX10_readDayLine_119 ?_
                refine v_if_eq (tgt := 129) X dX10_readDayLine_120 (by decide) (fun q => ?_) (fun q => ?_)
                · have hd := Tite_t q hd
                  exact v_loc [0, 1, 2, 3] rfl (t_at (P := fun (e118 : Int32) m => V K 6 (mkM am hn m) 129 [(0, .ref am), (2, .int (b2i v2)), (4, .int v112), (5, .int e118)] []) (Tlp_out hd ho117) KX)
                · have hd := Tite_f q hd
                  refine t_iincL (lv2 := fun v122 => [(5, .int v122), (0, .ref am), (2, .int (b2i v2)), (4, .int v112)]) X hd dX10_readDayLine_123 3 rfl (by decide : Int32.ofInt 1 = 1) (by decide) (fun v122 => rfl) (fun v122 hd => ?_)
                  refine v_goto (tgt := 99) X dX10_readDayLine_126 (by decide) ?_
                  exact v_loc [1, 2, 3, 0] rfl (Tlp_in (P := fun (s115 : Int32) m => V K 6 (mkM am hn m) 99 [(0, .ref am), (2, .int (b2i v2)), (4, .int v112), (5, .int s115)] []) hd ih116)
            · have hd := Tcnd_f q hd
              refine v_aload_n X dX10_readDayLine_90 4 0 rfl rfl ?_
              refine v_iconst (v := 1) X dX10_readDayLine_91 (by decide) ?_
              refine t_callV X hK hd (ct_X10_bad _ am 1) (lw_V q1913 q1915 qs44 q120 q1916) ⟨rfl, dn_X10_bad⟩ rfl ⟨by decide, by decide⟩ rfl (Nat.le_of_ble_eq_true rfl) dX10_readDayLine_92 (fun v129 ms hd => ?_)
              show V K 6 (mkM am hn ms) 95 [(4, .int v112), (3, .int (b2i v3)), (2, .int (b2i v2)), (1, .int (b2i v1)), (0, .ref am)] [.int (b2i v129)]
              exact t_zret X hK hd rfl ho dX10_readDayLine_95
          · have hd := Tcnd_f q hd
            refine v_iload_n X dX10_readDayLine_79 1 3 rfl rfl ?_
            refine v_ifZ_eq (tgt := 178) X dX10_readDayLine_80 (by decide) (fun q => ?_) (fun q => ?_)
            · have hd := Tcnd_f q hd
              refine v_aload_n X dX10_readDayLine_178 4 0 rfl rfl ?_
              refine t_getA (j := 3) X rfl fl_X10_19 dX10_readDayLine_179 ?_
              refine v_iload X dX10_readDayLine_182 0 rfl ?_
              refine v_bipush (v := 6) X dX10_readDayLine_184 (by decide) ?_
              refine t_iast (j := 3) X hd rfl dX10_readDayLine_186 (fun ms hd => ?_)
              refine v_iload_n X dX10_readDayLine_187 3 1 rfl rfl ?_
              refine v_ifZ_eq (tgt := 243) X dX10_readDayLine_188 (by decide) (fun q => ?_) (fun q => ?_)
              · have hd := Tcnd_f q hd
                refine v_aload_n X dX10_readDayLine_243 4 0 rfl rfl ?_
                refine v_iconst (v := 1) X dX10_readDayLine_244 (by decide) ?_
                refine v_bipush (v := 30) X dX10_readDayLine_245 (by decide) ?_
                refine t_callV X hK hd (ct_X10_readNumber _ am 1 30) (lw_V q1936 q1938 qs49 q120 q1939) ⟨rfl, dn_X10_readNumber⟩ rfl ⟨by decide, by decide⟩ rfl (Nat.le_of_ble_eq_true rfl) dX10_readDayLine_247 (fun v130 ms hd => ?_)
                show V K 6 (mkM am hn ms) 250 [(4, .int v112), (3, .int (b2i v3)), (2, .int (b2i v2)), (1, .int (b2i v1)), (0, .ref am)] [.int (b2i v130)]
                refine v_ifZ_ne (tgt := 255) X dX10_readDayLine_250 (by decide) (fun q => ?_) (fun q => ?_)
                · have hd := Tcnd_t q hd
                  refine v_aload_n X dX10_readDayLine_255 4 0 rfl rfl ?_
                  refine t_getA (j := 3) X rfl fl_X10_19 dX10_readDayLine_256 ?_
                  refine v_iload X dX10_readDayLine_259 0 rfl ?_
                  refine v_iconst (v := 1) X dX10_readDayLine_261 (by decide) ?_
                  refine v_iadd X dX10_readDayLine_262 ?_
                  refine v_aload_n X dX10_readDayLine_263 4 0 rfl rfl ?_
                  refine t_getI X hd rfl fl_X10_191 dX10_readDayLine_264 (fun v131 hd => ?_)
                  refine t_iast (j := 3) X hd rfl dX10_readDayLine_267 (fun ms hd => ?_)
                  refine v_aload_n X dX10_readDayLine_268 4 0 rfl rfl ?_
                  refine v_dup X dX10_readDayLine_269 rfl ?_
                  refine t_getI X hd rfl fl_X10_393 dX10_readDayLine_270 (fun v132 hd => ?_)
                  refine v_iconst (v := 1) X dX10_readDayLine_273 (by decide) ?_
                  refine v_iadd X dX10_readDayLine_274 ?_
                  refine t_putI X hd rfl fp_X10_393 dX10_readDayLine_275 (fun ms hd => ?_)
                  refine v_aload_n X dX10_readDayLine_278 4 0 rfl rfl ?_
                  refine t_callV X hK hd (ct_X10_readEnd _ am) (lw_V q1958 q1960 qs53 q120 q1961) ⟨rfl, dn_X10_readEnd⟩ rfl ⟨by decide, by decide⟩ rfl (Nat.le_of_ble_eq_true rfl) dX10_readDayLine_279 (fun v133 ms hd => ?_)
                  show V K 6 (mkM am hn ms) 282 [(4, .int v112), (3, .int (b2i v3)), (2, .int (b2i v2)), (1, .int (b2i v1)), (0, .ref am)] [.int (b2i v133)]
                  exact t_zret X hK hd rfl ho dX10_readDayLine_282
                · have hd := Tcnd_f q hd
                  refine v_iconst (v := 0) X dX10_readDayLine_253 (by decide) ?_
                  exact t_zret X hK hd rfl ho dX10_readDayLine_254
              · have hd := Tcnd_t q hd
                refine v_iconst (v := 0) X dX10_readDayLine_191 (by decide) ?_
                refine v_istore (lv2 := [(5, .int 0), (4, .int v112), (3, .int (b2i v3)), (2, .int (b2i v2)), (1, .int (b2i v1)), (0, .ref am)]) X dX10_readDayLine_192 (by decide) rfl ?_
                obtain ⟨e137, m1, hd, hd2⟩ := TM.bind_some hd
                have KX : V K 6 (mkM am hn m1) 218 [(0, .ref am), (4, .int v112), (5, .int e137)] [] := by
                  clear hd
                  have hd := hd2
                  refine v_iload X dX10_readDayLine_218 2 rfl ?_
                  refine v_iconst (v := 4) X dX10_readDayLine_220 (by decide) ?_
                  refine v_icmp_ne (tgt := 230) X dX10_readDayLine_221 (by decide) (fun q => ?_) (fun q => ?_)
                  · have hd := Tite_f q hd
                    refine v_aload_n X dX10_readDayLine_230 0 0 rfl rfl ?_
                    refine t_getA (j := 3) X rfl fl_X10_19 dX10_readDayLine_231 ?_
                    refine v_iload X dX10_readDayLine_234 1 rfl ?_
                    refine v_iload X dX10_readDayLine_236 2 rfl ?_
                    refine t_iast (j := 3) X hd rfl dX10_readDayLine_238 (fun ms hd => ?_)
                    refine v_aload_n X dX10_readDayLine_239 0 0 rfl rfl ?_
                    refine t_callV X hK hd (ct_X10_go _ am) (lw_V q1876 q1878 qs39 q120 q1879) ⟨rfl, dn_X10_go⟩ rfl ⟨by decide, by decide⟩ rfl (Nat.le_of_ble_eq_true rfl) dX10_readDayLine_240 (fun v140 ms hd => ?_)
                    show V K 6 (mkM am hn ms) 243 [(0, .ref am), (4, .int v112), (5, .int e137)] []
                    refine v_aload_n X dX10_readDayLine_243 0 0 rfl rfl ?_
                    refine v_iconst (v := 1) X dX10_readDayLine_244 (by decide) ?_
                    refine v_bipush (v := 30) X dX10_readDayLine_245 (by decide) ?_
                    refine t_callV X hK hd (ct_X10_readNumber _ am 1 30) (lw_V q1936 q1938 qs49 q120 q1939) ⟨rfl, dn_X10_readNumber⟩ rfl ⟨by decide, by decide⟩ rfl (Nat.le_of_ble_eq_true rfl) dX10_readDayLine_247 (fun v141 ms hd => ?_)
                    show V K 6 (mkM am hn ms) 250 [(0, .ref am), (4, .int v112), (5, .int e137)] [.int (b2i v141)]
                    refine v_ifZ_ne (tgt := 255) X dX10_readDayLine_250 (by decide) (fun q => ?_) (fun q => ?_)
                    · have hd := Tcnd_t q hd
                      refine v_aload_n X dX10_readDayLine_255 0 0 rfl rfl ?_
                      refine t_getA (j := 3) X rfl fl_X10_19 dX10_readDayLine_256 ?_
                      refine v_iload X dX10_readDayLine_259 1 rfl ?_
                      refine v_iconst (v := 1) X dX10_readDayLine_261 (by decide) ?_
                      refine v_iadd X dX10_readDayLine_262 ?_
                      refine v_aload_n X dX10_readDayLine_263 0 0 rfl rfl ?_
                      refine t_getI X hd rfl fl_X10_191 dX10_readDayLine_264 (fun v142 hd => ?_)
                      refine t_iast (j := 3) X hd rfl dX10_readDayLine_267 (fun ms hd => ?_)
                      refine v_aload_n X dX10_readDayLine_268 0 0 rfl rfl ?_
                      refine v_dup X dX10_readDayLine_269 rfl ?_
                      refine t_getI X hd rfl fl_X10_393 dX10_readDayLine_270 (fun v143 hd => ?_)
                      refine v_iconst (v := 1) X dX10_readDayLine_273 (by decide) ?_
                      refine v_iadd X dX10_readDayLine_274 ?_
                      refine t_putI X hd rfl fp_X10_393 dX10_readDayLine_275 (fun ms hd => ?_)
                      refine v_aload_n X dX10_readDayLine_278 0 0 rfl rfl ?_
                      refine t_callV X hK hd (ct_X10_readEnd _ am) (lw_V q1958 q1960 qs53 q120 q1961) ⟨rfl, dn_X10_readEnd⟩ rfl ⟨by decide, by decide⟩ rfl (Nat.le_of_ble_eq_true rfl) dX10_readDayLine_279 (fun v144 ms hd => ?_)
                      show V K 6 (mkM am hn ms) 282 [(0, .ref am), (4, .int v112), (5, .int e137)] [.int (b2i v144)]
                      exact t_zret X hK hd rfl ho dX10_readDayLine_282
                    · have hd := Tcnd_f q hd
                      refine v_iconst (v := 0) X dX10_readDayLine_253 (by decide) ?_
                      exact t_zret X hK hd rfl ho dX10_readDayLine_254
                  · have hd := Tite_t q hd
                    refine v_aload_n X dX10_readDayLine_224 0 0 rfl rfl ?_
                    refine v_iconst (v := 1) X dX10_readDayLine_225 (by decide) ?_
                    refine t_callV X hK hd (ct_X10_bad _ am 1) (lw_V q1913 q1915 qs44 q120 q1916) ⟨rfl, dn_X10_bad⟩ rfl ⟨by decide, by decide⟩ rfl (Nat.le_of_ble_eq_true rfl) dX10_readDayLine_226 (fun v145 ms hd => ?_)
                    show V K 6 (mkM am hn ms) 229 [(0, .ref am), (4, .int v112), (5, .int e137)] [.int (b2i v145)]
                    exact t_zret X hK hd rfl ho dX10_readDayLine_229
                clear hd2
                refine v_loc [5, 1, 0] rfl ?_
                refine Tloop_ind hd (fun (s134 : Int32) m => V K 6 (mkM am hn m) 194 [(0, .ref am), (4, .int v112), (5, .int s134)] []) (fun s134 ms x m2 hd ih135 ho136 => ?_)
                refine v_iload X dX10_readDayLine_194 2 rfl ?_
                refine v_iconst (v := 4) X dX10_readDayLine_196 (by decide) ?_
                refine v_icmp_ge (tgt := 218) X dX10_readDayLine_197 (by decide) (fun q => ?_) (fun q => ?_)
                · have hd := Tite_t q hd
                  exact v_loc [0, 1, 2] rfl (t_at (P := fun (e137 : Int32) m => V K 6 (mkM am hn m) 218 [(0, .ref am), (4, .int v112), (5, .int e137)] []) (Tlp_out hd ho136) KX)
                · have hd := Tite_f q hd
                  refine v_aload_n X dX10_readDayLine_200 0 0 rfl rfl ?_
                  refine v_bipush (v := 13) X dX10_readDayLine_201 (by decide) ?_
                  refine v_iload X dX10_readDayLine_203 2 rfl ?_
                  refine v_iadd X dX10_readDayLine_205 ?_
                  refine t_callV X hK hd (ct_X10_isWord _ am (13 + s134)) (lw_V q1896 q1898 qs42 q120 q1899) ⟨rfl, dn_X10_isWord⟩ rfl ⟨by decide, by decide⟩ rfl (Nat.le_of_ble_eq_true rfl) dX10_readDayLine_206 (fun v138 ms hd => ?_)
                  show V K 6 (mkM am hn ms) 209 [(0, .ref am), (4, .int v112), (5, .int s134)] [.int (b2i v138)]
                  refine v_ifZ_ne (tgt := 218) X dX10_readDayLine_209 (by decide) (fun q => ?_) (fun q => ?_)
                  · have hd := Tcnd_t q hd
                    exact v_loc [0, 1, 2] rfl (t_at (P := fun (e137 : Int32) m => V K 6 (mkM am hn m) 218 [(0, .ref am), (4, .int v112), (5, .int e137)] []) (Tlp_out hd ho136) KX)
                  · have hd := Tcnd_f q hd
                    refine t_iincL (lv2 := fun v139 => [(5, .int v139), (0, .ref am), (4, .int v112)]) X hd dX10_readDayLine_212 2 rfl (by decide : Int32.ofInt 1 = 1) (by decide) (fun v139 => rfl) (fun v139 hd => ?_)
                    refine v_goto (tgt := 194) X dX10_readDayLine_215 (by decide) ?_
                    exact v_loc [1, 2, 0] rfl (Tlp_in (P := fun (s134 : Int32) m => V K 6 (mkM am hn m) 194 [(0, .ref am), (4, .int v112), (5, .int s134)] []) hd ih135)
            · have hd := Tcnd_t q hd
              refine v_aload_n X dX10_readDayLine_83 4 0 rfl rfl ?_
              refine t_callV X hK hd (ct_X10_isName _ am) (lw_V q1928 q1930 qs47 q120 q1931) ⟨rfl, dn_X10_isName⟩ rfl ⟨by decide, by decide⟩ rfl (Nat.le_of_ble_eq_true rfl) dX10_readDayLine_84 (fun v146 ms hd => ?_)
              show V K 6 (mkM am hn ms) 87 [(4, .int v112), (3, .int (b2i v3)), (2, .int (b2i v2)), (1, .int (b2i v1)), (0, .ref am)] [.int (b2i v146)]
              refine v_ifZ_ne (tgt := 96) X dX10_readDayLine_87 (by decide) (fun q => ?_) (fun q => ?_)
              · have hd := Tcnd_t q hd
                refine v_iconst (v := 0) X dX10_readDayLine_96 (by decide) ?_
                refine v_istore (lv2 := [(5, .int 0), (4, .int v112), (3, .int (b2i v3)), (2, .int (b2i v2)), (1, .int (b2i v1)), (0, .ref am)]) X dX10_readDayLine_97 (by decide) rfl ?_
                obtain ⟨e150, m1, hd, hd2⟩ := TM.bind_some hd
                have KX : V K 6 (mkM am hn m1) 129 [(0, .ref am), (2, .int (b2i v2)), (4, .int v112), (5, .int e150)] [] := by
                  clear hd
                  have hd := hd2
                  refine v_iload X dX10_readDayLine_129 3 rfl ?_
                  refine v_aload_n X dX10_readDayLine_131 0 0 rfl rfl ?_
                  refine t_callV X hK hd (ct_X10_doors _ am) (lw_V q1986 q1988 qs57 q120 q1989) ⟨rfl, dn_X10_doors⟩ rfl ⟨by decide, by decide⟩ rfl (Nat.le_of_ble_eq_true rfl) dX10_readDayLine_132 (fun v155 ms hd => ?_)
                  show V K 6 (mkM am hn ms) 135 [(0, .ref am), (2, .int (b2i v2)), (4, .int v112), (5, .int e150)] [.int v155, .int e150]
                  refine v_icmp_ne (tgt := 144) X dX10_readDayLine_135 (by decide) (fun q => ?_) (fun q => ?_)
                  · have hd := Tite_f q hd
                    refine v_aload_n X dX10_readDayLine_144 0 0 rfl rfl ?_
                    refine t_getA (j := 3) X rfl fl_X10_19 dX10_readDayLine_145 ?_
                    refine v_iload X dX10_readDayLine_148 2 rfl ?_
                    refine v_iload_n X dX10_readDayLine_150 1 2 rfl rfl ?_
                    obtain ⟨u156, m1, hd, hd2⟩ := TM.bind_some hd
                    have KJ : V K 6 (mkM am hn m1) 159 [(0, .ref am), (4, .int v112), (5, .int e150)] [.int u156, .int v112, .ref (am + (3 + 1))] := by
                      clear hd
                      have hd := hd2
                      refine t_iast (j := 3) X hd rfl dX10_readDayLine_159 (fun ms hd => ?_)
                      refine v_aload_n X dX10_readDayLine_160 0 0 rfl rfl ?_
                      refine t_getA (j := 3) X rfl fl_X10_19 dX10_readDayLine_161 ?_
                      refine v_iload X dX10_readDayLine_164 1 rfl ?_
                      refine v_iconst (v := 1) X dX10_readDayLine_166 (by decide) ?_
                      refine v_iadd X dX10_readDayLine_167 ?_
                      refine v_iload X dX10_readDayLine_168 2 rfl ?_
                      refine t_iast (j := 3) X hd rfl dX10_readDayLine_170 (fun ms hd => ?_)
                      refine v_aload_n X dX10_readDayLine_171 0 0 rfl rfl ?_
                      refine t_callV X hK hd (ct_X10_go _ am) (lw_V q1876 q1878 qs39 q120 q1879) ⟨rfl, dn_X10_go⟩ rfl ⟨by decide, by decide⟩ rfl (Nat.le_of_ble_eq_true rfl) dX10_readDayLine_172 (fun v157 ms hd => ?_)
                      show V K 6 (mkM am hn ms) 175 [(0, .ref am), (4, .int v112), (5, .int e150)] []
                      refine v_goto (tgt := 268) X dX10_readDayLine_175 (by decide) ?_
                      refine v_aload_n X dX10_readDayLine_268 0 0 rfl rfl ?_
                      refine v_dup X dX10_readDayLine_269 rfl ?_
                      refine t_getI X hd rfl fl_X10_393 dX10_readDayLine_270 (fun v158 hd => ?_)
                      refine v_iconst (v := 1) X dX10_readDayLine_273 (by decide) ?_
                      refine v_iadd X dX10_readDayLine_274 ?_
                      refine t_putI X hd rfl fp_X10_393 dX10_readDayLine_275 (fun ms hd => ?_)
                      refine v_aload_n X dX10_readDayLine_278 0 0 rfl rfl ?_
                      refine t_callV X hK hd (ct_X10_readEnd _ am) (lw_V q1958 q1960 qs53 q120 q1961) ⟨rfl, dn_X10_readEnd⟩ rfl ⟨by decide, by decide⟩ rfl (Nat.le_of_ble_eq_true rfl) dX10_readDayLine_279 (fun v159 ms hd => ?_)
                      show V K 6 (mkM am hn ms) 282 [(0, .ref am), (4, .int v112), (5, .int e150)] [.int (b2i v159)]
                      exact t_zret X hK hd rfl ho dX10_readDayLine_282
                    clear hd2
                    refine v_ifZ_eq (tgt := 158) X dX10_readDayLine_151 (by decide) (fun q => ?_) (fun q => ?_)
                    · have hd := Tcnd_f q hd
                      refine v_iconst (v := 5) X dX10_readDayLine_158 (by decide) ?_
                      exact v_loc [0, 2, 3] rfl (t_at (P := fun (u156 : Int32) m => V K 6 (mkM am hn m) 159 [(0, .ref am), (4, .int v112), (5, .int e150)] [.int u156, .int v112, .ref (am + (3 + 1))]) hd KJ)
                    · have hd := Tcnd_t q hd
                      refine v_iconst (v := 4) X dX10_readDayLine_154 (by decide) ?_
                      refine v_goto (tgt := 159) X dX10_readDayLine_155 (by decide) ?_
                      exact v_loc [0, 2, 3] rfl (t_at (P := fun (u156 : Int32) m => V K 6 (mkM am hn m) 159 [(0, .ref am), (4, .int v112), (5, .int e150)] [.int u156, .int v112, .ref (am + (3 + 1))]) hd KJ)
                  · have hd := Tite_t q hd
                    refine v_aload_n X dX10_readDayLine_138 0 0 rfl rfl ?_
                    refine v_iconst (v := 3) X dX10_readDayLine_139 (by decide) ?_
                    refine t_callV X hK hd (ct_X10_bad _ am 3) (lw_V q1913 q1915 qs44 q120 q1916) ⟨rfl, dn_X10_bad⟩ rfl ⟨by decide, by decide⟩ rfl (Nat.le_of_ble_eq_true rfl) dX10_readDayLine_140 (fun v160 ms hd => ?_)
                    show V K 6 (mkM am hn ms) 143 [(0, .ref am), (2, .int (b2i v2)), (4, .int v112), (5, .int e150)] [.int (b2i v160)]
                    exact t_zret X hK hd rfl ho dX10_readDayLine_143
                clear hd2
                refine v_loc [5, 3, 1, 0] rfl ?_
                refine Tloop_ind hd (fun (s147 : Int32) m => V K 6 (mkM am hn m) 99 [(0, .ref am), (2, .int (b2i v2)), (4, .int v112), (5, .int s147)] []) (fun s147 ms x m2 hd ih148 ho149 => ?_)
                refine v_iload X dX10_readDayLine_99 3 rfl ?_
                refine v_aload_n X dX10_readDayLine_101 0 0 rfl rfl ?_
                refine t_callV X hK hd (ct_X10_doors _ am) (lw_V q1986 q1988 qs57 q120 q1989) ⟨rfl, dn_X10_doors⟩ rfl ⟨by decide, by decide⟩ rfl (Nat.le_of_ble_eq_true rfl) dX10_readDayLine_102 (fun v151 ms hd => ?_)
                show V K 6 (mkM am hn ms) 105 [(0, .ref am), (2, .int (b2i v2)), (4, .int v112), (5, .int s147)] [.int v151, .int s147]
                refine v_icmp_ge (tgt := 129) X dX10_readDayLine_105 (by decide) (fun q => ?_) (fun q => ?_)
                · have hd := Tite_t q hd
                  exact v_loc [0, 1, 2, 3] rfl (t_at (P := fun (e150 : Int32) m => V K 6 (mkM am hn m) 129 [(0, .ref am), (2, .int (b2i v2)), (4, .int v112), (5, .int e150)] []) (Tlp_out hd ho149) KX)
                · have hd := Tite_f q hd
                  refine v_aload_n X dX10_readDayLine_108 0 0 rfl rfl ?_
                  refine t_getA (j := 5) X rfl fl_X10_25 dX10_readDayLine_109 ?_
                  refine v_iload X dX10_readDayLine_112 3 rfl ?_
                  refine t_lald (j := 5) X hd rfl dX10_readDayLine_114 (fun v152 hd => ?_)
                  refine v_aload_n X dX10_readDayLine_115 0 0 rfl rfl ?_
                  refine t_getL X hd rfl fl_X10_144 dX10_readDayLine_116 (fun v153 hd => ?_)
                  refine v_lcmp X dX10_readDayLine_119 ?_
                  refine v_if_eq (tgt := 129) X dX10_readDayLine_120 (by decide) (fun q => ?_) (fun q => ?_)
                  · have hd := Tite_t q hd
                    exact v_loc [0, 1, 2, 3] rfl (t_at (P := fun (e150 : Int32) m => V K 6 (mkM am hn m) 129 [(0, .ref am), (2, .int (b2i v2)), (4, .int v112), (5, .int e150)] []) (Tlp_out hd ho149) KX)
                  · have hd := Tite_f q hd
                    refine t_iincL (lv2 := fun v154 => [(5, .int v154), (0, .ref am), (2, .int (b2i v2)), (4, .int v112)]) X hd dX10_readDayLine_123 3 rfl (by decide : Int32.ofInt 1 = 1) (by decide) (fun v154 => rfl) (fun v154 hd => ?_)
                    refine v_goto (tgt := 99) X dX10_readDayLine_126 (by decide) ?_
                    exact v_loc [1, 2, 3, 0] rfl (Tlp_in (P := fun (s147 : Int32) m => V K 6 (mkM am hn m) 99 [(0, .ref am), (2, .int (b2i v2)), (4, .int v112), (5, .int s147)] []) hd ih148)
              · have hd := Tcnd_f q hd
                refine v_aload_n X dX10_readDayLine_90 4 0 rfl rfl ?_
                refine v_iconst (v := 1) X dX10_readDayLine_91 (by decide) ?_
                refine t_callV X hK hd (ct_X10_bad _ am 1) (lw_V q1913 q1915 qs44 q120 q1916) ⟨rfl, dn_X10_bad⟩ rfl ⟨by decide, by decide⟩ rfl (Nat.le_of_ble_eq_true rfl) dX10_readDayLine_92 (fun v161 ms hd => ?_)
                show V K 6 (mkM am hn ms) 95 [(4, .int v112), (3, .int (b2i v3)), (2, .int (b2i v2)), (1, .int (b2i v1)), (0, .ref am)] [.int (b2i v161)]
                exact t_zret X hK hd rfl ho dX10_readDayLine_95
        · have hd := Tite_t q hd
          refine v_aload_n X dX10_readDayLine_57 3 0 rfl rfl ?_
          refine v_iconst (v := 4) X dX10_readDayLine_58 (by decide) ?_
          refine t_callV X hK hd (ct_X10_bad _ am 4) (lw_V q1913 q1915 qs44 q120 q1916) ⟨rfl, dn_X10_bad⟩ rfl ⟨by decide, by decide⟩ rfl (Nat.le_of_ble_eq_true rfl) dX10_readDayLine_59 (fun v162 ms hd => ?_)
          show V K 6 (mkM am hn ms) 62 [(3, .int (b2i v3)), (2, .int (b2i v2)), (1, .int (b2i v1)), (0, .ref am)] [.int (b2i v162)]
          exact t_zret X hK hd rfl ho dX10_readDayLine_62
      · have hd := Tcnd_f q hd
        refine v_aload_n X dX10_readDayLine_33 3 0 rfl rfl ?_
        refine v_bipush (v := 12) X dX10_readDayLine_34 (by decide) ?_
        refine t_callV X hK hd (ct_X10_isWord _ am 12) (lw_V q1896 q1898 qs42 q120 q1899) ⟨rfl, dn_X10_isWord⟩ rfl ⟨by decide, by decide⟩ rfl (Nat.le_of_ble_eq_true rfl) dX10_readDayLine_36 (fun v163 ms hd => ?_)
        show V K 6 (mkM am hn ms) 39 [(3, .int (b2i v3)), (2, .int (b2i v2)), (1, .int (b2i v1)), (0, .ref am)] [.int (b2i v163)]
        refine v_ifZ_ne (tgt := 48) X dX10_readDayLine_39 (by decide) (fun q => ?_) (fun q => ?_)
        · have hd := Tcnd_t q hd
          refine v_aload_n X dX10_readDayLine_48 3 0 rfl rfl ?_
          refine t_getI X hd rfl fl_X10_393 dX10_readDayLine_49 (fun v164 hd => ?_)
          refine v_bipush (v := 60) X dX10_readDayLine_52 (by decide) ?_
          refine v_icmp_ne (tgt := 63) X dX10_readDayLine_54 (by decide) (fun q => ?_) (fun q => ?_)
          · have hd := Tite_f q hd
            refine v_iconst (v := 2) X dX10_readDayLine_63 (by decide) ?_
            refine v_aload_n X dX10_readDayLine_64 3 0 rfl rfl ?_
            refine t_getI X hd rfl fl_X10_393 dX10_readDayLine_65 (fun v165 hd => ?_)
            refine v_imul X dX10_readDayLine_68 ?_
            refine t_lvI hd (fun v166 hd => ?_)
            refine v_istore (lv2 := [(4, .int v166), (3, .int (b2i v3)), (2, .int (b2i v2)), (1, .int (b2i v1)), (0, .ref am)]) X dX10_readDayLine_69 (by decide) rfl ?_
            refine v_aload_n X dX10_readDayLine_71 4 0 rfl rfl ?_
            refine t_callV X hK hd (ct_X10_go _ am) (lw_V q1876 q1878 qs39 q120 q1879) ⟨rfl, dn_X10_go⟩ rfl ⟨by decide, by decide⟩ rfl (Nat.le_of_ble_eq_true rfl) dX10_readDayLine_72 (fun v167 ms hd => ?_)
            show V K 6 (mkM am hn ms) 75 [(4, .int v166), (3, .int (b2i v3)), (2, .int (b2i v2)), (1, .int (b2i v1)), (0, .ref am)] []
            refine v_iload_n X dX10_readDayLine_75 2 2 rfl rfl ?_
            refine v_ifZ_ne (tgt := 83) X dX10_readDayLine_76 (by decide) (fun q => ?_) (fun q => ?_)
            · have hd := Tcnd_t q hd
              refine v_aload_n X dX10_readDayLine_83 4 0 rfl rfl ?_
              refine t_callV X hK hd (ct_X10_isName _ am) (lw_V q1928 q1930 qs47 q120 q1931) ⟨rfl, dn_X10_isName⟩ rfl ⟨by decide, by decide⟩ rfl (Nat.le_of_ble_eq_true rfl) dX10_readDayLine_84 (fun v168 ms hd => ?_)
              show V K 6 (mkM am hn ms) 87 [(4, .int v166), (3, .int (b2i v3)), (2, .int (b2i v2)), (1, .int (b2i v1)), (0, .ref am)] [.int (b2i v168)]
              refine v_ifZ_ne (tgt := 96) X dX10_readDayLine_87 (by decide) (fun q => ?_) (fun q => ?_)
              · have hd := Tcnd_t q hd
                refine v_iconst (v := 0) X dX10_readDayLine_96 (by decide) ?_
                refine v_istore (lv2 := [(5, .int 0), (4, .int v166), (3, .int (b2i v3)), (2, .int (b2i v2)), (1, .int (b2i v1)), (0, .ref am)]) X dX10_readDayLine_97 (by decide) rfl ?_
                obtain ⟨e172, m1, hd, hd2⟩ := TM.bind_some hd
                have KX : V K 6 (mkM am hn m1) 129 [(0, .ref am), (2, .int (b2i v2)), (4, .int v166), (5, .int e172)] [] := by
                  clear hd
                  have hd := hd2
                  refine v_iload X dX10_readDayLine_129 3 rfl ?_
                  refine v_aload_n X dX10_readDayLine_131 0 0 rfl rfl ?_
                  refine t_callV X hK hd (ct_X10_doors _ am) (lw_V q1986 q1988 qs57 q120 q1989) ⟨rfl, dn_X10_doors⟩ rfl ⟨by decide, by decide⟩ rfl (Nat.le_of_ble_eq_true rfl) dX10_readDayLine_132 (fun v177 ms hd => ?_)
                  show V K 6 (mkM am hn ms) 135 [(0, .ref am), (2, .int (b2i v2)), (4, .int v166), (5, .int e172)] [.int v177, .int e172]
                  refine v_icmp_ne (tgt := 144) X dX10_readDayLine_135 (by decide) (fun q => ?_) (fun q => ?_)
                  · have hd := Tite_f q hd
                    refine v_aload_n X dX10_readDayLine_144 0 0 rfl rfl ?_
                    refine t_getA (j := 3) X rfl fl_X10_19 dX10_readDayLine_145 ?_
                    refine v_iload X dX10_readDayLine_148 2 rfl ?_
                    refine v_iload_n X dX10_readDayLine_150 1 2 rfl rfl ?_
                    obtain ⟨u178, m1, hd, hd2⟩ := TM.bind_some hd
                    have KJ : V K 6 (mkM am hn m1) 159 [(0, .ref am), (4, .int v166), (5, .int e172)] [.int u178, .int v166, .ref (am + (3 + 1))] := by
                      clear hd
                      have hd := hd2
                      refine t_iast (j := 3) X hd rfl dX10_readDayLine_159 (fun ms hd => ?_)
                      refine v_aload_n X dX10_readDayLine_160 0 0 rfl rfl ?_
                      refine t_getA (j := 3) X rfl fl_X10_19 dX10_readDayLine_161 ?_
                      refine v_iload X dX10_readDayLine_164 1 rfl ?_
                      refine v_iconst (v := 1) X dX10_readDayLine_166 (by decide) ?_
                      refine v_iadd X dX10_readDayLine_167 ?_
                      refine v_iload X dX10_readDayLine_168 2 rfl ?_
                      refine t_iast (j := 3) X hd rfl dX10_readDayLine_170 (fun ms hd => ?_)
                      refine v_aload_n X dX10_readDayLine_171 0 0 rfl rfl ?_
                      refine t_callV X hK hd (ct_X10_go _ am) (lw_V q1876 q1878 qs39 q120 q1879) ⟨rfl, dn_X10_go⟩ rfl ⟨by decide, by decide⟩ rfl (Nat.le_of_ble_eq_true rfl) dX10_readDayLine_172 (fun v179 ms hd => ?_)
                      show V K 6 (mkM am hn ms) 175 [(0, .ref am), (4, .int v166), (5, .int e172)] []
                      refine v_goto (tgt := 268) X dX10_readDayLine_175 (by decide) ?_
                      refine v_aload_n X dX10_readDayLine_268 0 0 rfl rfl ?_
                      refine v_dup X dX10_readDayLine_269 rfl ?_
                      refine t_getI X hd rfl fl_X10_393 dX10_readDayLine_270 (fun v180 hd => ?_)
                      refine v_iconst (v := 1) X dX10_readDayLine_273 (by decide) ?_
                      refine v_iadd X dX10_readDayLine_274 ?_
                      refine t_putI X hd rfl fp_X10_393 dX10_readDayLine_275 (fun ms hd => ?_)
                      refine v_aload_n X dX10_readDayLine_278 0 0 rfl rfl ?_
                      refine t_callV X hK hd (ct_X10_readEnd _ am) (lw_V q1958 q1960 qs53 q120 q1961) ⟨rfl, dn_X10_readEnd⟩ rfl ⟨by decide, by decide⟩ rfl (Nat.le_of_ble_eq_true rfl) dX10_readDayLine_279 (fun v181 ms hd => ?_)
                      show V K 6 (mkM am hn ms) 282 [(0, .ref am), (4, .int v166), (5, .int e172)] [.int (b2i v181)]
                      exact t_zret X hK hd rfl ho dX10_readDayLine_282
                    clear hd2
                    refine v_ifZ_eq (tgt := 158) X dX10_readDayLine_151 (by decide) (fun q => ?_) (fun q => ?_)
                    · have hd := Tcnd_f q hd
                      refine v_iconst (v := 5) X dX10_readDayLine_158 (by decide) ?_
                      exact v_loc [0, 2, 3] rfl (t_at (P := fun (u178 : Int32) m => V K 6 (mkM am hn m) 159 [(0, .ref am), (4, .int v166), (5, .int e172)] [.int u178, .int v166, .ref (am + (3 + 1))]) hd KJ)
                    · have hd := Tcnd_t q hd
                      refine v_iconst (v := 4) X dX10_readDayLine_154 (by decide) ?_
                      refine v_goto (tgt := 159) X dX10_readDayLine_155 (by decide) ?_
                      exact v_loc [0, 2, 3] rfl (t_at (P := fun (u178 : Int32) m => V K 6 (mkM am hn m) 159 [(0, .ref am), (4, .int v166), (5, .int e172)] [.int u178, .int v166, .ref (am + (3 + 1))]) hd KJ)
                  · have hd := Tite_t q hd
                    refine v_aload_n X dX10_readDayLine_138 0 0 rfl rfl ?_
                    refine v_iconst (v := 3) X dX10_readDayLine_139 (by decide) ?_
                    refine t_callV X hK hd (ct_X10_bad _ am 3) (lw_V q1913 q1915 qs44 q120 q1916) ⟨rfl, dn_X10_bad⟩ rfl ⟨by decide, by decide⟩ rfl (Nat.le_of_ble_eq_true rfl) dX10_readDayLine_140 (fun v182 ms hd => ?_)
                    show V K 6 (mkM am hn ms) 143 [(0, .ref am), (2, .int (b2i v2)), (4, .int v166), (5, .int e172)] [.int (b2i v182)]
                    exact t_zret X hK hd rfl ho dX10_readDayLine_143
                clear hd2
                refine v_loc [5, 3, 1, 0] rfl ?_
                refine Tloop_ind hd (fun (s169 : Int32) m => V K 6 (mkM am hn m) 99 [(0, .ref am), (2, .int (b2i v2)), (4, .int v166), (5, .int s169)] []) (fun s169 ms x m2 hd ih170 ho171 => ?_)
                refine v_iload X dX10_readDayLine_99 3 rfl ?_
                refine v_aload_n X dX10_readDayLine_101 0 0 rfl rfl ?_
                refine t_callV X hK hd (ct_X10_doors _ am) (lw_V q1986 q1988 qs57 q120 q1989) ⟨rfl, dn_X10_doors⟩ rfl ⟨by decide, by decide⟩ rfl (Nat.le_of_ble_eq_true rfl) dX10_readDayLine_102 (fun v173 ms hd => ?_)
                show V K 6 (mkM am hn ms) 105 [(0, .ref am), (2, .int (b2i v2)), (4, .int v166), (5, .int s169)] [.int v173, .int s169]
                refine v_icmp_ge (tgt := 129) X dX10_readDayLine_105 (by decide) (fun q => ?_) (fun q => ?_)
                · have hd := Tite_t q hd
                  exact v_loc [0, 1, 2, 3] rfl (t_at (P := fun (e172 : Int32) m => V K 6 (mkM am hn m) 129 [(0, .ref am), (2, .int (b2i v2)), (4, .int v166), (5, .int e172)] []) (Tlp_out hd ho171) KX)
                · have hd := Tite_f q hd
                  refine v_aload_n X dX10_readDayLine_108 0 0 rfl rfl ?_
                  refine t_getA (j := 5) X rfl fl_X10_25 dX10_readDayLine_109 ?_
                  refine v_iload X dX10_readDayLine_112 3 rfl ?_
                  refine t_lald (j := 5) X hd rfl dX10_readDayLine_114 (fun v174 hd => ?_)
                  refine v_aload_n X dX10_readDayLine_115 0 0 rfl rfl ?_
                  refine t_getL X hd rfl fl_X10_144 dX10_readDayLine_116 (fun v175 hd => ?_)
                  refine v_lcmp X dX10_readDayLine_119 ?_
                  refine v_if_eq (tgt := 129) X dX10_readDayLine_120 (by decide) (fun q => ?_) (fun q => ?_)
                  · have hd := Tite_t q hd
                    exact v_loc [0, 1, 2, 3] rfl (t_at (P := fun (e172 : Int32) m => V K 6 (mkM am hn m) 129 [(0, .ref am), (2, .int (b2i v2)), (4, .int v166), (5, .int e172)] []) (Tlp_out hd ho171) KX)
                  · have hd := Tite_f q hd
                    refine t_iincL (lv2 := fun v176 => [(5, .int v176), (0, .ref am), (2, .int (b2i v2)), (4, .int v166)]) X hd dX10_readDayLine_123 3 rfl (by decide : Int32.ofInt 1 = 1) (by decide) (fun v176 => rfl) (fun v176 hd => ?_)
                    refine v_goto (tgt := 99) X dX10_readDayLine_126 (by decide) ?_
                    exact v_loc [1, 2, 3, 0] rfl (Tlp_in (P := fun (s169 : Int32) m => V K 6 (mkM am hn m) 99 [(0, .ref am), (2, .int (b2i v2)), (4, .int v166), (5, .int s169)] []) hd ih170)
              · have hd := Tcnd_f q hd
                refine v_aload_n X dX10_readDayLine_90 4 0 rfl rfl ?_
                refine v_iconst (v := 1) X dX10_readDayLine_91 (by decide) ?_
                refine t_callV X hK hd (ct_X10_bad _ am 1) (lw_V q1913 q1915 qs44 q120 q1916) ⟨rfl, dn_X10_bad⟩ rfl ⟨by decide, by decide⟩ rfl (Nat.le_of_ble_eq_true rfl) dX10_readDayLine_92 (fun v183 ms hd => ?_)
                show V K 6 (mkM am hn ms) 95 [(4, .int v166), (3, .int (b2i v3)), (2, .int (b2i v2)), (1, .int (b2i v1)), (0, .ref am)] [.int (b2i v183)]
                exact t_zret X hK hd rfl ho dX10_readDayLine_95
            · have hd := Tcnd_f q hd
              refine v_iload_n X dX10_readDayLine_79 1 3 rfl rfl ?_
              refine v_ifZ_eq (tgt := 178) X dX10_readDayLine_80 (by decide) (fun q => ?_) (fun q => ?_)
              · have hd := Tcnd_f q hd
                refine v_aload_n X dX10_readDayLine_178 4 0 rfl rfl ?_
                refine t_getA (j := 3) X rfl fl_X10_19 dX10_readDayLine_179 ?_
                refine v_iload X dX10_readDayLine_182 0 rfl ?_
                refine v_bipush (v := 6) X dX10_readDayLine_184 (by decide) ?_
                refine t_iast (j := 3) X hd rfl dX10_readDayLine_186 (fun ms hd => ?_)
                refine v_iload_n X dX10_readDayLine_187 3 1 rfl rfl ?_
                refine v_ifZ_eq (tgt := 243) X dX10_readDayLine_188 (by decide) (fun q => ?_) (fun q => ?_)
                · have hd := Tcnd_f q hd
                  refine v_aload_n X dX10_readDayLine_243 4 0 rfl rfl ?_
                  refine v_iconst (v := 1) X dX10_readDayLine_244 (by decide) ?_
                  refine v_bipush (v := 30) X dX10_readDayLine_245 (by decide) ?_
                  refine t_callV X hK hd (ct_X10_readNumber _ am 1 30) (lw_V q1936 q1938 qs49 q120 q1939) ⟨rfl, dn_X10_readNumber⟩ rfl ⟨by decide, by decide⟩ rfl (Nat.le_of_ble_eq_true rfl) dX10_readDayLine_247 (fun v184 ms hd => ?_)
                  show V K 6 (mkM am hn ms) 250 [(4, .int v166), (3, .int (b2i v3)), (2, .int (b2i v2)), (1, .int (b2i v1)), (0, .ref am)] [.int (b2i v184)]
                  refine v_ifZ_ne (tgt := 255) X dX10_readDayLine_250 (by decide) (fun q => ?_) (fun q => ?_)
                  · have hd := Tcnd_t q hd
                    refine v_aload_n X dX10_readDayLine_255 4 0 rfl rfl ?_
                    refine t_getA (j := 3) X rfl fl_X10_19 dX10_readDayLine_256 ?_
                    refine v_iload X dX10_readDayLine_259 0 rfl ?_
                    refine v_iconst (v := 1) X dX10_readDayLine_261 (by decide) ?_
                    refine v_iadd X dX10_readDayLine_262 ?_
                    refine v_aload_n X dX10_readDayLine_263 4 0 rfl rfl ?_
                    refine t_getI X hd rfl fl_X10_191 dX10_readDayLine_264 (fun v185 hd => ?_)
                    refine t_iast (j := 3) X hd rfl dX10_readDayLine_267 (fun ms hd => ?_)
                    refine v_aload_n X dX10_readDayLine_268 4 0 rfl rfl ?_
                    refine v_dup X dX10_readDayLine_269 rfl ?_
                    refine t_getI X hd rfl fl_X10_393 dX10_readDayLine_270 (fun v186 hd => ?_)
                    refine v_iconst (v := 1) X dX10_readDayLine_273 (by decide) ?_
                    refine v_iadd X dX10_readDayLine_274 ?_
                    refine t_putI X hd rfl fp_X10_393 dX10_readDayLine_275 (fun ms hd => ?_)
                    refine v_aload_n X dX10_readDayLine_278 4 0 rfl rfl ?_
                    refine t_callV X hK hd (ct_X10_readEnd _ am) (lw_V q1958 q1960 qs53 q120 q1961) ⟨rfl, dn_X10_readEnd⟩ rfl ⟨by decide, by decide⟩ rfl (Nat.le_of_ble_eq_true rfl) dX10_readDayLine_279 (fun v187 ms hd => ?_)
                    show V K 6 (mkM am hn ms) 282 [(4, .int v166), (3, .int (b2i v3)), (2, .int (b2i v2)), (1, .int (b2i v1)), (0, .ref am)] [.int (b2i v187)]
                    exact t_zret X hK hd rfl ho dX10_readDayLine_282
                  · have hd := Tcnd_f q hd
                    refine v_iconst (v := 0) X dX10_readDayLine_253 (by decide) ?_
                    exact t_zret X hK hd rfl ho dX10_readDayLine_254
                · have hd := Tcnd_t q hd
                  refine v_iconst (v := 0) X dX10_readDayLine_191 (by decide) ?_
                  refine v_istore (lv2 := [(5, .int 0), (4, .int v166), (3, .int (b2i v3)), (2, .int (b2i v2)), (1, .int (b2i v1)), (0, .ref am)]) X dX10_readDayLine_192 (by decide) rfl ?_
                  obtain ⟨e191, m1, hd, hd2⟩ := TM.bind_some hd
                  have KX : V K 6 (mkM am hn m1) 218 [(0, .ref am), (4, .int v166), (5, .int e191)] [] := by
                    clear hd
                    have hd := hd2
                    refine v_iload X dX10_readDayLine_218 2 rfl ?_
                    refine v_iconst (v := 4) X dX10_readDayLine_220 (by decide) ?_
                    refine v_icmp_ne (tgt := 230) X dX10_readDayLine_221 (by decide) (fun q => ?_) (fun q => ?_)
                    · have hd := Tite_f q hd
                      refine v_aload_n X dX10_readDayLine_230 0 0 rfl rfl ?_
                      refine t_getA (j := 3) X rfl fl_X10_19 dX10_readDayLine_231 ?_
                      refine v_iload X dX10_readDayLine_234 1 rfl ?_
                      refine v_iload X dX10_readDayLine_236 2 rfl ?_
                      refine t_iast (j := 3) X hd rfl dX10_readDayLine_238 (fun ms hd => ?_)
                      refine v_aload_n X dX10_readDayLine_239 0 0 rfl rfl ?_
                      refine t_callV X hK hd (ct_X10_go _ am) (lw_V q1876 q1878 qs39 q120 q1879) ⟨rfl, dn_X10_go⟩ rfl ⟨by decide, by decide⟩ rfl (Nat.le_of_ble_eq_true rfl) dX10_readDayLine_240 (fun v194 ms hd => ?_)
                      show V K 6 (mkM am hn ms) 243 [(0, .ref am), (4, .int v166), (5, .int e191)] []
                      refine v_aload_n X dX10_readDayLine_243 0 0 rfl rfl ?_
                      refine v_iconst (v := 1) X dX10_readDayLine_244 (by decide) ?_
                      refine v_bipush (v := 30) X dX10_readDayLine_245 (by decide) ?_
                      refine t_callV X hK hd (ct_X10_readNumber _ am 1 30) (lw_V q1936 q1938 qs49 q120 q1939) ⟨rfl, dn_X10_readNumber⟩ rfl ⟨by decide, by decide⟩ rfl (Nat.le_of_ble_eq_true rfl) dX10_readDayLine_247 (fun v195 ms hd => ?_)
                      show V K 6 (mkM am hn ms) 250 [(0, .ref am), (4, .int v166), (5, .int e191)] [.int (b2i v195)]
                      refine v_ifZ_ne (tgt := 255) X dX10_readDayLine_250 (by decide) (fun q => ?_) (fun q => ?_)
                      · have hd := Tcnd_t q hd
                        refine v_aload_n X dX10_readDayLine_255 0 0 rfl rfl ?_
                        refine t_getA (j := 3) X rfl fl_X10_19 dX10_readDayLine_256 ?_
                        refine v_iload X dX10_readDayLine_259 1 rfl ?_
                        refine v_iconst (v := 1) X dX10_readDayLine_261 (by decide) ?_
                        refine v_iadd X dX10_readDayLine_262 ?_
                        refine v_aload_n X dX10_readDayLine_263 0 0 rfl rfl ?_
                        refine t_getI X hd rfl fl_X10_191 dX10_readDayLine_264 (fun v196 hd => ?_)
                        refine t_iast (j := 3) X hd rfl dX10_readDayLine_267 (fun ms hd => ?_)
                        refine v_aload_n X dX10_readDayLine_268 0 0 rfl rfl ?_
                        refine v_dup X dX10_readDayLine_269 rfl ?_
                        refine t_getI X hd rfl fl_X10_393 dX10_readDayLine_270 (fun v197 hd => ?_)
                        refine v_iconst (v := 1) X dX10_readDayLine_273 (by decide) ?_
                        refine v_iadd X dX10_readDayLine_274 ?_
                        refine t_putI X hd rfl fp_X10_393 dX10_readDayLine_275 (fun ms hd => ?_)
                        refine v_aload_n X dX10_readDayLine_278 0 0 rfl rfl ?_
                        refine t_callV X hK hd (ct_X10_readEnd _ am) (lw_V q1958 q1960 qs53 q120 q1961) ⟨rfl, dn_X10_readEnd⟩ rfl ⟨by decide, by decide⟩ rfl (Nat.le_of_ble_eq_true rfl) dX10_readDayLine_279 (fun v198 ms hd => ?_)
                        show V K 6 (mkM am hn ms) 282 [(0, .ref am), (4, .int v166), (5, .int e191)] [.int (b2i v198)]
                        exact t_zret X hK hd rfl ho dX10_readDayLine_282
                      · have hd := Tcnd_f q hd
                        refine v_iconst (v := 0) X dX10_readDayLine_253 (by decide) ?_
                        exact t_zret X hK hd rfl ho dX10_readDayLine_254
                    · have hd := Tite_t q hd
                      refine v_aload_n X dX10_readDayLine_224 0 0 rfl rfl ?_
                      refine v_iconst (v := 1) X dX10_readDayLine_225 (by decide) ?_
                      refine t_callV X hK hd (ct_X10_bad _ am 1) (lw_V q1913 q1915 qs44 q120 q1916) ⟨rfl, dn_X10_bad⟩ rfl ⟨by decide, by decide⟩ rfl (Nat.le_of_ble_eq_true rfl) dX10_readDayLine_226 (fun v199 ms hd => ?_)
                      show V K 6 (mkM am hn ms) 229 [(0, .ref am), (4, .int v166), (5, .int e191)] [.int (b2i v199)]
                      exact t_zret X hK hd rfl ho dX10_readDayLine_229
                  clear hd2
                  refine v_loc [5, 1, 0] rfl ?_
                  refine Tloop_ind hd (fun (s188 : Int32) m => V K 6 (mkM am hn m) 194 [(0, .ref am), (4, .int v166), (5, .int s188)] []) (fun s188 ms x m2 hd ih189 ho190 => ?_)
                  refine v_iload X dX10_readDayLine_194 2 rfl ?_
                  refine v_iconst (v := 4) X dX10_readDayLine_196 (by decide) ?_
                  refine v_icmp_ge (tgt := 218) X dX10_readDayLine_197 (by decide) (fun q => ?_) (fun q => ?_)
                  · have hd := Tite_t q hd
                    exact v_loc [0, 1, 2] rfl (t_at (P := fun (e191 : Int32) m => V K 6 (mkM am hn m) 218 [(0, .ref am), (4, .int v166), (5, .int e191)] []) (Tlp_out hd ho190) KX)
                  · have hd := Tite_f q hd
                    refine v_aload_n X dX10_readDayLine_200 0 0 rfl rfl ?_
                    refine v_bipush (v := 13) X dX10_readDayLine_201 (by decide) ?_
                    refine v_iload X dX10_readDayLine_203 2 rfl ?_
                    refine v_iadd X dX10_readDayLine_205 ?_
                    refine t_callV X hK hd (ct_X10_isWord _ am (13 + s188)) (lw_V q1896 q1898 qs42 q120 q1899) ⟨rfl, dn_X10_isWord⟩ rfl ⟨by decide, by decide⟩ rfl (Nat.le_of_ble_eq_true rfl) dX10_readDayLine_206 (fun v192 ms hd => ?_)
                    show V K 6 (mkM am hn ms) 209 [(0, .ref am), (4, .int v166), (5, .int s188)] [.int (b2i v192)]
                    refine v_ifZ_ne (tgt := 218) X dX10_readDayLine_209 (by decide) (fun q => ?_) (fun q => ?_)
                    · have hd := Tcnd_t q hd
                      exact v_loc [0, 1, 2] rfl (t_at (P := fun (e191 : Int32) m => V K 6 (mkM am hn m) 218 [(0, .ref am), (4, .int v166), (5, .int e191)] []) (Tlp_out hd ho190) KX)
                    · have hd := Tcnd_f q hd
                      refine t_iincL (lv2 := fun v193 => [(5, .int v193), (0, .ref am), (4, .int v166)]) X hd dX10_readDayLine_212 2 rfl (by decide : Int32.ofInt 1 = 1) (by decide) (fun v193 => rfl) (fun v193 hd => ?_)
                      refine v_goto (tgt := 194) X dX10_readDayLine_215 (by decide) ?_
                      exact v_loc [1, 2, 0] rfl (Tlp_in (P := fun (s188 : Int32) m => V K 6 (mkM am hn m) 194 [(0, .ref am), (4, .int v166), (5, .int s188)] []) hd ih189)
              · have hd := Tcnd_t q hd
                refine v_aload_n X dX10_readDayLine_83 4 0 rfl rfl ?_
                refine t_callV X hK hd (ct_X10_isName _ am) (lw_V q1928 q1930 qs47 q120 q1931) ⟨rfl, dn_X10_isName⟩ rfl ⟨by decide, by decide⟩ rfl (Nat.le_of_ble_eq_true rfl) dX10_readDayLine_84 (fun v200 ms hd => ?_)
                show V K 6 (mkM am hn ms) 87 [(4, .int v166), (3, .int (b2i v3)), (2, .int (b2i v2)), (1, .int (b2i v1)), (0, .ref am)] [.int (b2i v200)]
                refine v_ifZ_ne (tgt := 96) X dX10_readDayLine_87 (by decide) (fun q => ?_) (fun q => ?_)
                · have hd := Tcnd_t q hd
                  refine v_iconst (v := 0) X dX10_readDayLine_96 (by decide) ?_
                  refine v_istore (lv2 := [(5, .int 0), (4, .int v166), (3, .int (b2i v3)), (2, .int (b2i v2)), (1, .int (b2i v1)), (0, .ref am)]) X dX10_readDayLine_97 (by decide) rfl ?_
                  obtain ⟨e204, m1, hd, hd2⟩ := TM.bind_some hd
                  have KX : V K 6 (mkM am hn m1) 129 [(0, .ref am), (2, .int (b2i v2)), (4, .int v166), (5, .int e204)] [] := by
                    clear hd
                    have hd := hd2
                    refine v_iload X dX10_readDayLine_129 3 rfl ?_
                    refine v_aload_n X dX10_readDayLine_131 0 0 rfl rfl ?_
                    refine t_callV X hK hd (ct_X10_doors _ am) (lw_V q1986 q1988 qs57 q120 q1989) ⟨rfl, dn_X10_doors⟩ rfl ⟨by decide, by decide⟩ rfl (Nat.le_of_ble_eq_true rfl) dX10_readDayLine_132 (fun v209 ms hd => ?_)
                    show V K 6 (mkM am hn ms) 135 [(0, .ref am), (2, .int (b2i v2)), (4, .int v166), (5, .int e204)] [.int v209, .int e204]
                    refine v_icmp_ne (tgt := 144) X dX10_readDayLine_135 (by decide) (fun q => ?_) (fun q => ?_)
                    · have hd := Tite_f q hd
                      refine v_aload_n X dX10_readDayLine_144 0 0 rfl rfl ?_
                      refine t_getA (j := 3) X rfl fl_X10_19 dX10_readDayLine_145 ?_
                      refine v_iload X dX10_readDayLine_148 2 rfl ?_
                      refine v_iload_n X dX10_readDayLine_150 1 2 rfl rfl ?_
                      obtain ⟨u210, m1, hd, hd2⟩ := TM.bind_some hd
                      have KJ : V K 6 (mkM am hn m1) 159 [(0, .ref am), (4, .int v166), (5, .int e204)] [.int u210, .int v166, .ref (am + (3 + 1))] := by
                        clear hd
                        have hd := hd2
                        refine t_iast (j := 3) X hd rfl dX10_readDayLine_159 (fun ms hd => ?_)
                        refine v_aload_n X dX10_readDayLine_160 0 0 rfl rfl ?_
                        refine t_getA (j := 3) X rfl fl_X10_19 dX10_readDayLine_161 ?_
                        refine v_iload X dX10_readDayLine_164 1 rfl ?_
                        refine v_iconst (v := 1) X dX10_readDayLine_166 (by decide) ?_
                        refine v_iadd X dX10_readDayLine_167 ?_
                        refine v_iload X dX10_readDayLine_168 2 rfl ?_
                        refine t_iast (j := 3) X hd rfl dX10_readDayLine_170 (fun ms hd => ?_)
                        refine v_aload_n X dX10_readDayLine_171 0 0 rfl rfl ?_
                        refine t_callV X hK hd (ct_X10_go _ am) (lw_V q1876 q1878 qs39 q120 q1879) ⟨rfl, dn_X10_go⟩ rfl ⟨by decide, by decide⟩ rfl (Nat.le_of_ble_eq_true rfl) dX10_readDayLine_172 (fun v211 ms hd => ?_)
                        show V K 6 (mkM am hn ms) 175 [(0, .ref am), (4, .int v166), (5, .int e204)] []
                        refine v_goto (tgt := 268) X dX10_readDayLine_175 (by decide) ?_
                        refine v_aload_n X dX10_readDayLine_268 0 0 rfl rfl ?_
                        refine v_dup X dX10_readDayLine_269 rfl ?_
                        refine t_getI X hd rfl fl_X10_393 dX10_readDayLine_270 (fun v212 hd => ?_)
                        refine v_iconst (v := 1) X dX10_readDayLine_273 (by decide) ?_
                        refine v_iadd X dX10_readDayLine_274 ?_
                        refine t_putI X hd rfl fp_X10_393 dX10_readDayLine_275 (fun ms hd => ?_)
                        refine v_aload_n X dX10_readDayLine_278 0 0 rfl rfl ?_
                        refine t_callV X hK hd (ct_X10_readEnd _ am) (lw_V q1958 q1960 qs53 q120 q1961) ⟨rfl, dn_X10_readEnd⟩ rfl ⟨by decide, by decide⟩ rfl (Nat.le_of_ble_eq_true rfl) dX10_readDayLine_279 (fun v213 ms hd => ?_)
                        show V K 6 (mkM am hn ms) 282 [(0, .ref am), (4, .int v166), (5, .int e204)] [.int (b2i v213)]
                        exact t_zret X hK hd rfl ho dX10_readDayLine_282
                      clear hd2
                      refine v_ifZ_eq (tgt := 158) X dX10_readDayLine_151 (by decide) (fun q => ?_) (fun q => ?_)
                      · have hd := Tcnd_f q hd
                        refine v_iconst (v := 5) X dX10_readDayLine_158 (by decide) ?_
                        exact v_loc [0, 2, 3] rfl (t_at (P := fun (u210 : Int32) m => V K 6 (mkM am hn m) 159 [(0, .ref am), (4, .int v166), (5, .int e204)] [.int u210, .int v166, .ref (am + (3 + 1))]) hd KJ)
                      · have hd := Tcnd_t q hd
                        refine v_iconst (v := 4) X dX10_readDayLine_154 (by decide) ?_
                        refine v_goto (tgt := 159) X dX10_readDayLine_155 (by decide) ?_
                        exact v_loc [0, 2, 3] rfl (t_at (P := fun (u210 : Int32) m => V K 6 (mkM am hn m) 159 [(0, .ref am), (4, .int v166), (5, .int e204)] [.int u210, .int v166, .ref (am + (3 + 1))]) hd KJ)
                    · have hd := Tite_t q hd
                      refine v_aload_n X dX10_readDayLine_138 0 0 rfl rfl ?_
                      refine v_iconst (v := 3) X dX10_readDayLine_139 (by decide) ?_
                      refine t_callV X hK hd (ct_X10_bad _ am 3) (lw_V q1913 q1915 qs44 q120 q1916) ⟨rfl, dn_X10_bad⟩ rfl ⟨by decide, by decide⟩ rfl (Nat.le_of_ble_eq_true rfl) dX10_readDayLine_140 (fun v214 ms hd => ?_)
                      show V K 6 (mkM am hn ms) 143 [(0, .ref am), (2, .int (b2i v2)), (4, .int v166), (5, .int e204)] [.int (b2i v214)]
                      exact t_zret X hK hd rfl ho dX10_readDayLine_143
                  clear hd2
                  refine v_loc [5, 3, 1, 0] rfl ?_
                  refine Tloop_ind hd (fun (s201 : Int32) m => V K 6 (mkM am hn m) 99 [(0, .ref am), (2, .int (b2i v2)), (4, .int v166), (5, .int s201)] []) (fun s201 ms x m2 hd ih202 ho203 => ?_)
                  refine v_iload X dX10_readDayLine_99 3 rfl ?_
                  refine v_aload_n X dX10_readDayLine_101 0 0 rfl rfl ?_
                  refine t_callV X hK hd (ct_X10_doors _ am) (lw_V q1986 q1988 qs57 q120 q1989) ⟨rfl, dn_X10_doors⟩ rfl ⟨by decide, by decide⟩ rfl (Nat.le_of_ble_eq_true rfl) dX10_readDayLine_102 (fun v205 ms hd => ?_)
                  show V K 6 (mkM am hn ms) 105 [(0, .ref am), (2, .int (b2i v2)), (4, .int v166), (5, .int s201)] [.int v205, .int s201]
                  refine v_icmp_ge (tgt := 129) X dX10_readDayLine_105 (by decide) (fun q => ?_) (fun q => ?_)
                  · have hd := Tite_t q hd
                    exact v_loc [0, 1, 2, 3] rfl (t_at (P := fun (e204 : Int32) m => V K 6 (mkM am hn m) 129 [(0, .ref am), (2, .int (b2i v2)), (4, .int v166), (5, .int e204)] []) (Tlp_out hd ho203) KX)
                  · have hd := Tite_f q hd
                    refine v_aload_n X dX10_readDayLine_108 0 0 rfl rfl ?_
                    refine t_getA (j := 5) X rfl fl_X10_25 dX10_readDayLine_109 ?_
                    refine v_iload X dX10_readDayLine_112 3 rfl ?_
                    refine t_lald (j := 5) X hd rfl dX10_readDayLine_114 (fun v206 hd => ?_)
                    refine v_aload_n X dX10_readDayLine_115 0 0 rfl rfl ?_
                    refine t_getL X hd rfl fl_X10_144 dX10_readDayLine_116 (fun v207 hd => ?_)
                    refine v_lcmp X dX10_readDayLine_119 ?_
                    refine v_if_eq (tgt := 129) X dX10_readDayLine_120 (by decide) (fun q => ?_) (fun q => ?_)
                    · have hd := Tite_t q hd
                      exact v_loc [0, 1, 2, 3] rfl (t_at (P := fun (e204 : Int32) m => V K 6 (mkM am hn m) 129 [(0, .ref am), (2, .int (b2i v2)), (4, .int v166), (5, .int e204)] []) (Tlp_out hd ho203) KX)
                    · have hd := Tite_f q hd
                      refine t_iincL (lv2 := fun v208 => [(5, .int v208), (0, .ref am), (2, .int (b2i v2)), (4, .int v166)]) X hd dX10_readDayLine_123 3 rfl (by decide : Int32.ofInt 1 = 1) (by decide) (fun v208 => rfl) (fun v208 hd => ?_)
                      refine v_goto (tgt := 99) X dX10_readDayLine_126 (by decide) ?_
                      exact v_loc [1, 2, 3, 0] rfl (Tlp_in (P := fun (s201 : Int32) m => V K 6 (mkM am hn m) 99 [(0, .ref am), (2, .int (b2i v2)), (4, .int v166), (5, .int s201)] []) hd ih202)
                · have hd := Tcnd_f q hd
                  refine v_aload_n X dX10_readDayLine_90 4 0 rfl rfl ?_
                  refine v_iconst (v := 1) X dX10_readDayLine_91 (by decide) ?_
                  refine t_callV X hK hd (ct_X10_bad _ am 1) (lw_V q1913 q1915 qs44 q120 q1916) ⟨rfl, dn_X10_bad⟩ rfl ⟨by decide, by decide⟩ rfl (Nat.le_of_ble_eq_true rfl) dX10_readDayLine_92 (fun v215 ms hd => ?_)
                  show V K 6 (mkM am hn ms) 95 [(4, .int v166), (3, .int (b2i v3)), (2, .int (b2i v2)), (1, .int (b2i v1)), (0, .ref am)] [.int (b2i v215)]
                  exact t_zret X hK hd rfl ho dX10_readDayLine_95
          · have hd := Tite_t q hd
            refine v_aload_n X dX10_readDayLine_57 3 0 rfl rfl ?_
            refine v_iconst (v := 4) X dX10_readDayLine_58 (by decide) ?_
            refine t_callV X hK hd (ct_X10_bad _ am 4) (lw_V q1913 q1915 qs44 q120 q1916) ⟨rfl, dn_X10_bad⟩ rfl ⟨by decide, by decide⟩ rfl (Nat.le_of_ble_eq_true rfl) dX10_readDayLine_59 (fun v216 ms hd => ?_)
            show V K 6 (mkM am hn ms) 62 [(3, .int (b2i v3)), (2, .int (b2i v2)), (1, .int (b2i v1)), (0, .ref am)] [.int (b2i v216)]
            exact t_zret X hK hd rfl ho dX10_readDayLine_62
        · have hd := Tcnd_f q hd
          refine v_aload_n X dX10_readDayLine_42 3 0 rfl rfl ?_
          refine v_iconst (v := 1) X dX10_readDayLine_43 (by decide) ?_
          refine t_callV X hK hd (ct_X10_bad _ am 1) (lw_V q1913 q1915 qs44 q120 q1916) ⟨rfl, dn_X10_bad⟩ rfl ⟨by decide, by decide⟩ rfl (Nat.le_of_ble_eq_true rfl) dX10_readDayLine_44 (fun v217 ms hd => ?_)
          show V K 6 (mkM am hn ms) 47 [(3, .int (b2i v3)), (2, .int (b2i v2)), (1, .int (b2i v1)), (0, .ref am)] [.int (b2i v217)]
          exact t_zret X hK hd rfl ho dX10_readDayLine_47
def dkwX10_leaf_5 : List UInt8 := [132, 7, 1, 167, 255, 198, 132, 6, 1, 167, 255, 182, 2, 172]
abbrev dktX10_leaf_5 : List UInt8 := dkwX10_leaf_5 ++ []
def dkwX10_leaf_4 : List UInt8 := [16, 10, 108, 159, 0, 6, 167, 0, 16, 21, 5, 21, 4, 160, 0, 6, 21, 6, 172, 132, 5, 1]
abbrev dktX10_leaf_4 : List UInt8 := dkwX10_leaf_4 ++ dktX10_leaf_5
def dkwX10_leaf_3 : List UInt8 := [180, 0, 39, 21, 7, 46, 21, 6, 16, 10, 112, 160, 0, 34, 42, 180, 0, 42, 21, 7, 46, 21, 6]
abbrev dktX10_leaf_3 : List UInt8 := dkwX10_leaf_3 ++ dktX10_leaf_4
def dkwX10_leaf_2 : List UInt8 := [3, 54, 6, 21, 6, 16, 100, 162, 0, 73, 3, 54, 7, 21, 7, 42, 180, 1, 15, 162, 0, 55, 42]
abbrev dktX10_leaf_2 : List UInt8 := dkwX10_leaf_2 ++ dktX10_leaf_3
def dkwX10_leaf_1 : List UInt8 := [153, 0, 12, 29, 3, 5, 184, 0, 187, 154, 0, 5, 2, 172, 42, 27, 28, 29, 182, 1, 22, 3, 54, 5]
abbrev dktX10_leaf_1 : List UInt8 := dkwX10_leaf_1 ++ dktX10_leaf_2
def dkwX10_leaf_0 : List UInt8 := [42, 3, 181, 0, 108, 42, 182, 0, 200, 42, 27, 182, 1, 5, 153, 0, 21, 28, 3, 6, 184, 0, 187]
abbrev dktX10_leaf_0 : List UInt8 := dkwX10_leaf_0 ++ dktX10_leaf_1
theorem dksX10_leaf_0 : cX10_leaf.data.toList.drop 0 = dktX10_leaf_0 := by decide +kernel
theorem dksX10_leaf_1 : cX10_leaf.data.toList.drop 23 = dktX10_leaf_1 := dk_seg dksX10_leaf_0 23 rfl rfl
theorem dksX10_leaf_2 : cX10_leaf.data.toList.drop 47 = dktX10_leaf_2 := dk_seg dksX10_leaf_1 24 rfl rfl
theorem dksX10_leaf_3 : cX10_leaf.data.toList.drop 70 = dktX10_leaf_3 := dk_seg dksX10_leaf_2 23 rfl rfl
theorem dksX10_leaf_4 : cX10_leaf.data.toList.drop 93 = dktX10_leaf_4 := dk_seg dksX10_leaf_3 23 rfl rfl
theorem dksX10_leaf_5 : cX10_leaf.data.toList.drop 115 = dktX10_leaf_5 := dk_seg dksX10_leaf_4 22 rfl rfl
theorem dX10_leaf_0 : decode cX10_leaf 0 = .ok (.aload_n 0, 1) := dk_42 (dk_at dksX10_leaf_0 0 rfl rfl)
theorem dX10_leaf_1 : decode cX10_leaf 1 = .ok (.iconst 0, 1) := dk_3 (dk_at dksX10_leaf_0 1 rfl rfl)
theorem dX10_leaf_2 : decode cX10_leaf 2 = .ok (.putfield 108, 3) := dk_181 0 108 (dk_at dksX10_leaf_0 2 rfl rfl)
theorem dX10_leaf_5 : decode cX10_leaf 5 = .ok (.aload_n 0, 1) := dk_42 (dk_at dksX10_leaf_0 5 rfl rfl)
theorem dX10_leaf_6 : decode cX10_leaf 6 = .ok (.invokevirtual 200, 3) := dk_182 0 200 (dk_at dksX10_leaf_0 6 rfl rfl)
theorem dX10_leaf_9 : decode cX10_leaf 9 = .ok (.aload_n 0, 1) := dk_42 (dk_at dksX10_leaf_0 9 rfl rfl)
theorem dX10_leaf_10 : decode cX10_leaf 10 = .ok (.iload_n 1, 1) := dk_27 (dk_at dksX10_leaf_0 10 rfl rfl)
theorem dX10_leaf_11 : decode cX10_leaf 11 = .ok (.invokevirtual 261, 3) := dk_182 1 5 (dk_at dksX10_leaf_0 11 rfl rfl)
theorem dX10_leaf_14 : decode cX10_leaf 14 = .ok (.ifCond .eq 21, 3) := dk_153 0 21 (dk_at dksX10_leaf_0 14 rfl rfl)
theorem dX10_leaf_17 : decode cX10_leaf 17 = .ok (.iload_n 2, 1) := dk_28 (dk_at dksX10_leaf_0 17 rfl rfl)
theorem dX10_leaf_18 : decode cX10_leaf 18 = .ok (.iconst 0, 1) := dk_3 (dk_at dksX10_leaf_0 18 rfl rfl)
theorem dX10_leaf_19 : decode cX10_leaf 19 = .ok (.iconst 3, 1) := dk_6 (dk_at dksX10_leaf_0 19 rfl rfl)
theorem dX10_leaf_20 : decode cX10_leaf 20 = .ok (.invokestatic 187, 3) := dk_184 0 187 (dk_at dksX10_leaf_0 20 rfl rfl)
theorem dX10_leaf_23 : decode cX10_leaf 23 = .ok (.ifCond .eq 12, 3) := dk_153 0 12 (dk_at dksX10_leaf_1 0 rfl rfl)
theorem dX10_leaf_26 : decode cX10_leaf 26 = .ok (.iload_n 3, 1) := dk_29 (dk_at dksX10_leaf_1 3 rfl rfl)
theorem dX10_leaf_27 : decode cX10_leaf 27 = .ok (.iconst 0, 1) := dk_3 (dk_at dksX10_leaf_1 4 rfl rfl)
theorem dX10_leaf_28 : decode cX10_leaf 28 = .ok (.iconst 2, 1) := dk_5 (dk_at dksX10_leaf_1 5 rfl rfl)
theorem dX10_leaf_29 : decode cX10_leaf 29 = .ok (.invokestatic 187, 3) := dk_184 0 187 (dk_at dksX10_leaf_1 6 rfl rfl)
theorem dX10_leaf_32 : decode cX10_leaf 32 = .ok (.ifCond .ne 5, 3) := dk_154 0 5 (dk_at dksX10_leaf_1 9 rfl rfl)
theorem dX10_leaf_35 : decode cX10_leaf 35 = .ok (.iconst (-1), 1) := dk_2 (dk_at dksX10_leaf_1 12 rfl rfl)
theorem dX10_leaf_36 : decode cX10_leaf 36 = .ok (.ireturn, 1) := dk_172 (dk_at dksX10_leaf_1 13 rfl rfl)
theorem dX10_leaf_37 : decode cX10_leaf 37 = .ok (.aload_n 0, 1) := dk_42 (dk_at dksX10_leaf_1 14 rfl rfl)
theorem dX10_leaf_38 : decode cX10_leaf 38 = .ok (.iload_n 1, 1) := dk_27 (dk_at dksX10_leaf_1 15 rfl rfl)
theorem dX10_leaf_39 : decode cX10_leaf 39 = .ok (.iload_n 2, 1) := dk_28 (dk_at dksX10_leaf_1 16 rfl rfl)
theorem dX10_leaf_40 : decode cX10_leaf 40 = .ok (.iload_n 3, 1) := dk_29 (dk_at dksX10_leaf_1 17 rfl rfl)
theorem dX10_leaf_41 : decode cX10_leaf 41 = .ok (.invokevirtual 278, 3) := dk_182 1 22 (dk_at dksX10_leaf_1 18 rfl rfl)
theorem dX10_leaf_44 : decode cX10_leaf 44 = .ok (.iconst 0, 1) := dk_3 (dk_at dksX10_leaf_1 21 rfl rfl)
theorem dX10_leaf_45 : decode cX10_leaf 45 = .ok (.istore 5, 2) := dk_54 5 (dk_at dksX10_leaf_1 22 rfl rfl)
theorem dX10_leaf_47 : decode cX10_leaf 47 = .ok (.iconst 0, 1) := dk_3 (dk_at dksX10_leaf_2 0 rfl rfl)
theorem dX10_leaf_48 : decode cX10_leaf 48 = .ok (.istore 6, 2) := dk_54 6 (dk_at dksX10_leaf_2 1 rfl rfl)
theorem dX10_leaf_50 : decode cX10_leaf 50 = .ok (.iload 6, 2) := dk_21 6 (dk_at dksX10_leaf_2 3 rfl rfl)
theorem dX10_leaf_52 : decode cX10_leaf 52 = .ok (.bipush 100, 2) := dk_16 100 (dk_at dksX10_leaf_2 5 rfl rfl)
theorem dX10_leaf_54 : decode cX10_leaf 54 = .ok (.if_icmp .ge 73, 3) := dk_162 0 73 (dk_at dksX10_leaf_2 7 rfl rfl)
theorem dX10_leaf_57 : decode cX10_leaf 57 = .ok (.iconst 0, 1) := dk_3 (dk_at dksX10_leaf_2 10 rfl rfl)
theorem dX10_leaf_58 : decode cX10_leaf 58 = .ok (.istore 7, 2) := dk_54 7 (dk_at dksX10_leaf_2 11 rfl rfl)
theorem dX10_leaf_60 : decode cX10_leaf 60 = .ok (.iload 7, 2) := dk_21 7 (dk_at dksX10_leaf_2 13 rfl rfl)
theorem dX10_leaf_62 : decode cX10_leaf 62 = .ok (.aload_n 0, 1) := dk_42 (dk_at dksX10_leaf_2 15 rfl rfl)
theorem dX10_leaf_63 : decode cX10_leaf 63 = .ok (.getfield 271, 3) := dk_180 1 15 (dk_at dksX10_leaf_2 16 rfl rfl)
theorem dX10_leaf_66 : decode cX10_leaf 66 = .ok (.if_icmp .ge 55, 3) := dk_162 0 55 (dk_at dksX10_leaf_2 19 rfl rfl)
theorem dX10_leaf_69 : decode cX10_leaf 69 = .ok (.aload_n 0, 1) := dk_42 (dk_at dksX10_leaf_2 22 rfl rfl)
theorem dX10_leaf_70 : decode cX10_leaf 70 = .ok (.getfield 39, 3) := dk_180 0 39 (dk_at dksX10_leaf_3 0 rfl rfl)
theorem dX10_leaf_73 : decode cX10_leaf 73 = .ok (.iload 7, 2) := dk_21 7 (dk_at dksX10_leaf_3 3 rfl rfl)
theorem dX10_leaf_75 : decode cX10_leaf 75 = .ok (.iaload, 1) := dk_46 (dk_at dksX10_leaf_3 5 rfl rfl)
theorem dX10_leaf_76 : decode cX10_leaf 76 = .ok (.iload 6, 2) := dk_21 6 (dk_at dksX10_leaf_3 6 rfl rfl)
theorem dX10_leaf_78 : decode cX10_leaf 78 = .ok (.bipush 10, 2) := dk_16 10 (dk_at dksX10_leaf_3 8 rfl rfl)
theorem dX10_leaf_80 : decode cX10_leaf 80 = .ok (.irem, 1) := dk_112 (dk_at dksX10_leaf_3 10 rfl rfl)
theorem dX10_leaf_81 : decode cX10_leaf 81 = .ok (.if_icmp .ne 34, 3) := dk_160 0 34 (dk_at dksX10_leaf_3 11 rfl rfl)
theorem dX10_leaf_84 : decode cX10_leaf 84 = .ok (.aload_n 0, 1) := dk_42 (dk_at dksX10_leaf_3 14 rfl rfl)
theorem dX10_leaf_85 : decode cX10_leaf 85 = .ok (.getfield 42, 3) := dk_180 0 42 (dk_at dksX10_leaf_3 15 rfl rfl)
theorem dX10_leaf_88 : decode cX10_leaf 88 = .ok (.iload 7, 2) := dk_21 7 (dk_at dksX10_leaf_3 18 rfl rfl)
theorem dX10_leaf_90 : decode cX10_leaf 90 = .ok (.iaload, 1) := dk_46 (dk_at dksX10_leaf_3 20 rfl rfl)
theorem dX10_leaf_91 : decode cX10_leaf 91 = .ok (.iload 6, 2) := dk_21 6 (dk_at dksX10_leaf_3 21 rfl rfl)
theorem dX10_leaf_93 : decode cX10_leaf 93 = .ok (.bipush 10, 2) := dk_16 10 (dk_at dksX10_leaf_4 0 rfl rfl)
theorem dX10_leaf_95 : decode cX10_leaf 95 = .ok (.idiv, 1) := dk_108 (dk_at dksX10_leaf_4 2 rfl rfl)
theorem dX10_leaf_96 : decode cX10_leaf 96 = .ok (.if_icmp .eq 6, 3) := dk_159 0 6 (dk_at dksX10_leaf_4 3 rfl rfl)
theorem dX10_leaf_99 : decode cX10_leaf 99 = .ok (.goto 16, 3) := dk_167 0 16 (dk_at dksX10_leaf_4 6 rfl rfl)
theorem dX10_leaf_102 : decode cX10_leaf 102 = .ok (.iload 5, 2) := dk_21 5 (dk_at dksX10_leaf_4 9 rfl rfl)
theorem dX10_leaf_104 : decode cX10_leaf 104 = .ok (.iload 4, 2) := dk_21 4 (dk_at dksX10_leaf_4 11 rfl rfl)
theorem dX10_leaf_106 : decode cX10_leaf 106 = .ok (.if_icmp .ne 6, 3) := dk_160 0 6 (dk_at dksX10_leaf_4 13 rfl rfl)
theorem dX10_leaf_109 : decode cX10_leaf 109 = .ok (.iload 6, 2) := dk_21 6 (dk_at dksX10_leaf_4 16 rfl rfl)
theorem dX10_leaf_111 : decode cX10_leaf 111 = .ok (.ireturn, 1) := dk_172 (dk_at dksX10_leaf_4 18 rfl rfl)
theorem dX10_leaf_112 : decode cX10_leaf 112 = .ok (.iinc 5 1, 3) := dk_132 5 1 (dk_at dksX10_leaf_4 19 rfl rfl)
theorem dX10_leaf_115 : decode cX10_leaf 115 = .ok (.iinc 7 1, 3) := dk_132 7 1 (dk_at dksX10_leaf_5 0 rfl rfl)
theorem dX10_leaf_118 : decode cX10_leaf 118 = .ok (.goto (-58), 3) := dk_167 255 198 (dk_at dksX10_leaf_5 3 rfl rfl)
theorem dX10_leaf_121 : decode cX10_leaf 121 = .ok (.iinc 6 1, 3) := dk_132 6 1 (dk_at dksX10_leaf_5 6 rfl rfl)
theorem dX10_leaf_124 : decode cX10_leaf 124 = .ok (.goto (-74), 3) := dk_167 255 182 (dk_at dksX10_leaf_5 9 rfl rfl)
theorem dX10_leaf_127 : decode cX10_leaf 127 = .ok (.iconst (-1), 1) := dk_2 (dk_at dksX10_leaf_5 12 rfl rfl)
theorem dX10_leaf_128 : decode cX10_leaf 128 = .ok (.ireturn, 1) := dk_172 (dk_at dksX10_leaf_5 13 rfl rfl)
theorem dn_X10_leaf : yX10_leaf.cls ≠ "java/lang/invoke/MethodHandle" ∧ yX10_leaf.cls ≠ "java/lang/invoke/VarHandle" ∧ (parseMethodDescriptor yX10_leaf.desc).map (fun d => d.parameters.length) = some 4 := by decide +kernel
noncomputable def M_X10_leaf (p1 : Int32) (p2 : Int32) (p3 : Int32) (p4 : Int32) : TM Int32 := TM.bind (sI 0 0) (fun _ => TM.bind (M_X10_lay) (fun v1 => TM.bind (M_X10_isDoor p1) (fun v2 => cond v2 (TM.bind (M_X10_isIn p2 0 3) (fun v3 => cond v3 (TM.bind (M_X10_isIn p3 0 2) (fun v4 => cond v4 (TM.bind (M_X10_layLeaf p1 p2 p3) (fun v5 => TM.loop (S := Int32 × Int32) (fun s6 => if 100 ≤ s6.2 then TM.pure (Sum.inr (-1)) else TM.loop (S := Int32 × Int32) (fun s9 => TM.bind (tI 26) (fun v12 => if v12 ≤ s9.2 then TM.lv (s6.2 + 1) (fun v13 => TM.pure (Sum.inr (Sum.inl (s9.1, v13)))) else TM.bind (tA 24 4 s9.2) (fun v14 => if v14 = (s6.2 - s6.2 / 10 * 10) then TM.bind (tA 25 4 s9.2) (fun v16 => if v16 = (s6.2 / 10) then if s9.1 = p4 then TM.pure (Sum.inr (Sum.inr s6.2)) else TM.lv (s9.1 + 1) (fun v17 => TM.lv (s9.2 + 1) (fun v18 => TM.pure (Sum.inl (v17, v18)))) else TM.lv (s9.2 + 1) (fun v19 => TM.pure (Sum.inl (s9.1, v19)))) else TM.lv (s9.2 + 1) (fun v15 => TM.pure (Sum.inl (s9.1, v15)))))) (s6.1, 0)) (0, 0))) (TM.pure (-1)))) (TM.pure (-1)))) (TM.pure (-1)))))
set_option maxHeartbeats 4000000 in
theorem ct_X10_leaf (G : gG) (am : Nat) (p1 : Int32) (p2 : Int32) (p3 : Int32) (p4 : Int32) : gCtM G am yX10_leaf cX10_leaf 8 (some .int) 2 55 [.ref am, .int p1, .int p2, .int p3, .int p4] (M_X10_leaf p1 p2 p3 p4) (fun x : Int32 => some (.int x)) := by
  refine gCtM.of (by decide) (Nat.le_of_ble_eq_true rfl) (fun K hn ms ms' r hG X hK hd ho => ?_)
  subst hG
  have X : gX K cX10_leaf 8 "BitingDoorsModel" "leaf" (some .int) 2 55 := X
  show V K 8 (mkM am hn ms) 0 [(0, .ref am), (1, .int p1), (2, .int p2), (3, .int p3), (4, .int p4)] []
  unfold M_X10_leaf at hd
  refine v_aload_n X dX10_leaf_0 0 0 rfl rfl ?_
  refine v_iconst (v := 0) X dX10_leaf_1 (by decide) ?_
  refine t_putI X hd rfl fp_X10_108 dX10_leaf_2 (fun ms hd => ?_)
  refine v_aload_n X dX10_leaf_5 0 0 rfl rfl ?_
  refine t_callV X hK hd (ct_X10_lay _ am) (lw_V q1868 q1870 qs37 q120 q1871) ⟨rfl, dn_X10_lay⟩ rfl ⟨by decide, by decide⟩ rfl (Nat.le_of_ble_eq_true rfl) dX10_leaf_6 (fun v1 ms hd => ?_)
  show V K 8 (mkM am hn ms) 9 [(0, .ref am), (1, .int p1), (2, .int p2), (3, .int p3), (4, .int p4)] []
  refine v_aload_n X dX10_leaf_9 0 0 rfl rfl ?_
  refine v_iload_n X dX10_leaf_10 1 1 rfl rfl ?_
  refine t_callV X hK hd (ct_X10_isDoor _ am p1) (lw_V q1982 q1984 qs56 q120 q1985) ⟨rfl, dn_X10_isDoor⟩ rfl ⟨by decide, by decide⟩ rfl (Nat.le_of_ble_eq_true rfl) dX10_leaf_11 (fun v2 ms hd => ?_)
  show V K 8 (mkM am hn ms) 14 [(0, .ref am), (1, .int p1), (2, .int p2), (3, .int p3), (4, .int p4)] [.int (b2i v2)]
  refine v_ifZ_eq (tgt := 35) X dX10_leaf_14 (by decide) (fun q => ?_) (fun q => ?_)
  · have hd := Tcnd_f q hd
    refine v_iconst (v := (-1)) X dX10_leaf_35 (by decide) ?_
    exact t_iret X hK hd ho dX10_leaf_36
  · have hd := Tcnd_t q hd
    refine v_iload_n X dX10_leaf_17 2 2 rfl rfl ?_
    refine v_iconst (v := 0) X dX10_leaf_18 (by decide) ?_
    refine v_iconst (v := 3) X dX10_leaf_19 (by decide) ?_
    refine t_callS X hK hd (ct_X10_isIn _ am p2 0 3) (lw_S q1940 q1941 q120 q1942) dn_X10_isIn rfl ⟨by decide, by decide⟩ rfl (Nat.le_of_ble_eq_true rfl) dX10_leaf_20 (fun v3 ms hd => ?_)
    show V K 8 (mkM am hn ms) 23 [(0, .ref am), (1, .int p1), (2, .int p2), (3, .int p3), (4, .int p4)] [.int (b2i v3)]
    refine v_ifZ_eq (tgt := 35) X dX10_leaf_23 (by decide) (fun q => ?_) (fun q => ?_)
    · have hd := Tcnd_f q hd
      refine v_iconst (v := (-1)) X dX10_leaf_35 (by decide) ?_
      exact t_iret X hK hd ho dX10_leaf_36
    · have hd := Tcnd_t q hd
      refine v_iload_n X dX10_leaf_26 3 3 rfl rfl ?_
      refine v_iconst (v := 0) X dX10_leaf_27 (by decide) ?_
      refine v_iconst (v := 2) X dX10_leaf_28 (by decide) ?_
      refine t_callS X hK hd (ct_X10_isIn _ am p3 0 2) (lw_S q1940 q1941 q120 q1942) dn_X10_isIn rfl ⟨by decide, by decide⟩ rfl (Nat.le_of_ble_eq_true rfl) dX10_leaf_29 (fun v4 ms hd => ?_)
      show V K 8 (mkM am hn ms) 32 [(0, .ref am), (1, .int p1), (2, .int p2), (3, .int p3), (4, .int p4)] [.int (b2i v4)]
      refine v_ifZ_ne (tgt := 37) X dX10_leaf_32 (by decide) (fun q => ?_) (fun q => ?_)
      · have hd := Tcnd_t q hd
        refine v_aload_n X dX10_leaf_37 0 0 rfl rfl ?_
        refine v_iload_n X dX10_leaf_38 1 1 rfl rfl ?_
        refine v_iload_n X dX10_leaf_39 2 2 rfl rfl ?_
        refine v_iload_n X dX10_leaf_40 3 3 rfl rfl ?_
        refine t_callV X hK hd (ct_X10_layLeaf _ am p1 p2 p3) (lw_V q2002 q2004 qs60 q120 q2005) ⟨rfl, dn_X10_layLeaf⟩ rfl ⟨by decide, by decide⟩ rfl (Nat.le_of_ble_eq_true rfl) dX10_leaf_41 (fun v5 ms hd => ?_)
        show V K 8 (mkM am hn ms) 44 [(0, .ref am), (1, .int p1), (2, .int p2), (3, .int p3), (4, .int p4)] []
        refine v_iconst (v := 0) X dX10_leaf_44 (by decide) ?_
        refine v_istore (lv2 := [(5, .int 0), (0, .ref am), (1, .int p1), (2, .int p2), (3, .int p3), (4, .int p4)]) X dX10_leaf_45 (by decide) rfl ?_
        refine v_iconst (v := 0) X dX10_leaf_47 (by decide) ?_
        refine v_istore (lv2 := [(6, .int 0), (5, .int 0), (0, .ref am), (1, .int p1), (2, .int p2), (3, .int p3), (4, .int p4)]) X dX10_leaf_48 (by decide) rfl ?_
        refine v_loc [2, 6, 1, 0] rfl ?_
        refine Tloop_ind hd (fun (s6 : Int32 × Int32) m => V K 8 (mkM am hn m) 50 [(0, .ref am), (4, .int p4), (5, .int s6.1), (6, .int s6.2)] []) (fun s6 ms x m2 hd ih7 ho8 => ?_)
        refine v_iload X dX10_leaf_50 3 rfl ?_
        refine v_bipush (v := 100) X dX10_leaf_52 (by decide) ?_
        refine v_icmp_ge (tgt := 127) X dX10_leaf_54 (by decide) (fun q => ?_) (fun q => ?_)
        · have hd := Tite_t q hd
          refine v_iconst (v := (-1)) X dX10_leaf_127 (by decide) ?_
          have hd := Tlp_out hd ho8
          exact t_iret X hK hd ho dX10_leaf_128
        · have hd := Tite_f q hd
          refine v_iconst (v := 0) X dX10_leaf_57 (by decide) ?_
          refine v_istore (lv2 := [(7, .int 0), (0, .ref am), (4, .int p4), (5, .int s6.1), (6, .int s6.2)]) X dX10_leaf_58 (by decide) rfl ?_
          refine v_loc [1, 2, 3, 4, 0] rfl ?_
          refine Tloop_ind hd (fun (s9 : Int32 × Int32) m => V K 8 (mkM am hn m) 60 [(0, .ref am), (4, .int p4), (5, .int s9.1), (6, .int s6.2), (7, .int s9.2)] []) (fun s9 ms x m2 hd ih10 ho11 => ?_)
          refine v_iload X dX10_leaf_60 4 rfl ?_
          refine v_aload_n X dX10_leaf_62 0 0 rfl rfl ?_
          refine t_getI X hd rfl fl_X10_271 dX10_leaf_63 (fun v12 hd => ?_)
          refine v_icmp_ge (tgt := 121) X dX10_leaf_66 (by decide) (fun q => ?_) (fun q => ?_)
          · have hd := Tite_t q hd
            refine t_iincL (lv2 := fun v13 => [(6, .int v13), (0, .ref am), (4, .int p4), (5, .int s9.1), (7, .int s9.2)]) X hd dX10_leaf_121 3 rfl (by decide : Int32.ofInt 1 = 1) (by decide) (fun v13 => rfl) (fun v13 hd => ?_)
            refine v_goto (tgt := 50) X dX10_leaf_124 (by decide) ?_
            have hd := Tlp_out hd ho11
            exact v_loc [1, 2, 3, 0] rfl (Tlp_in (P := fun (s6 : Int32 × Int32) m => V K 8 (mkM am hn m) 50 [(0, .ref am), (4, .int p4), (5, .int s6.1), (6, .int s6.2)] []) hd ih7)
          · have hd := Tite_f q hd
            refine v_aload_n X dX10_leaf_69 0 0 rfl rfl ?_
            refine t_getA (j := 9) X rfl fl_X10_39 dX10_leaf_70 ?_
            refine v_iload X dX10_leaf_73 4 rfl ?_
            refine t_iald (j := 9) X hd rfl dX10_leaf_75 (fun v14 hd => ?_)
            refine v_iload X dX10_leaf_76 3 rfl ?_
            refine v_bipush (v := 10) X dX10_leaf_78 (by decide) ?_
            refine v_irem X dX10_leaf_80 (by decide) ?_
            refine v_icmp_ne (tgt := 115) X dX10_leaf_81 (by decide) (fun q => ?_) (fun q => ?_)
            · have hd := Tite_f q hd
              refine t_iincL (lv2 := fun v15 => [(7, .int v15), (0, .ref am), (4, .int p4), (5, .int s9.1), (6, .int s6.2)]) X hd dX10_leaf_115 4 rfl (by decide : Int32.ofInt 1 = 1) (by decide) (fun v15 => rfl) (fun v15 hd => ?_)
              refine v_goto (tgt := 60) X dX10_leaf_118 (by decide) ?_
              exact v_loc [1, 2, 3, 4, 0] rfl (Tlp_in (P := fun (s9 : Int32 × Int32) m => V K 8 (mkM am hn m) 60 [(0, .ref am), (4, .int p4), (5, .int s9.1), (6, .int s6.2), (7, .int s9.2)] []) hd ih10)
            · have hd := Tite_t q hd
              refine v_aload_n X dX10_leaf_84 0 0 rfl rfl ?_
              refine t_getA (j := 10) X rfl fl_X10_42 dX10_leaf_85 ?_
              refine v_iload X dX10_leaf_88 4 rfl ?_
              refine t_iald (j := 10) X hd rfl dX10_leaf_90 (fun v16 hd => ?_)
              refine v_iload X dX10_leaf_91 3 rfl ?_
              refine v_bipush (v := 10) X dX10_leaf_93 (by decide) ?_
              refine v_idiv X dX10_leaf_95 (by decide) ?_
              refine v_icmp_eq (tgt := 102) X dX10_leaf_96 (by decide) (fun q => ?_) (fun q => ?_)
              · have hd := Tite_t q hd
                refine v_iload X dX10_leaf_102 2 rfl ?_
                refine v_iload X dX10_leaf_104 1 rfl ?_
                refine v_icmp_ne (tgt := 112) X dX10_leaf_106 (by decide) (fun q => ?_) (fun q => ?_)
                · have hd := Tite_f q hd
                  refine t_iincL (lv2 := fun v17 => [(5, .int v17), (0, .ref am), (4, .int p4), (6, .int s6.2), (7, .int s9.2)]) X hd dX10_leaf_112 2 rfl (by decide : Int32.ofInt 1 = 1) (by decide) (fun v17 => rfl) (fun v17 hd => ?_)
                  refine t_iincL (lv2 := fun v18 => [(7, .int v18), (5, .int v17), (0, .ref am), (4, .int p4), (6, .int s6.2)]) X hd dX10_leaf_115 4 rfl (by decide : Int32.ofInt 1 = 1) (by decide) (fun v18 => rfl) (fun v18 hd => ?_)
                  refine v_goto (tgt := 60) X dX10_leaf_118 (by decide) ?_
                  exact v_loc [2, 3, 1, 4, 0] rfl (Tlp_in (P := fun (s9 : Int32 × Int32) m => V K 8 (mkM am hn m) 60 [(0, .ref am), (4, .int p4), (5, .int s9.1), (6, .int s6.2), (7, .int s9.2)] []) hd ih10)
                · have hd := Tite_t q hd
                  refine v_iload X dX10_leaf_109 3 rfl ?_
                  have hd := Tlp_out hd ho11
                  have hd := Tlp_out hd ho8
                  exact t_iret X hK hd ho dX10_leaf_111
              · have hd := Tite_f q hd
                refine v_goto (tgt := 115) X dX10_leaf_99 (by decide) ?_
                refine t_iincL (lv2 := fun v19 => [(7, .int v19), (0, .ref am), (4, .int p4), (5, .int s9.1), (6, .int s6.2)]) X hd dX10_leaf_115 4 rfl (by decide : Int32.ofInt 1 = 1) (by decide) (fun v19 => rfl) (fun v19 hd => ?_)
                refine v_goto (tgt := 60) X dX10_leaf_118 (by decide) ?_
                exact v_loc [1, 2, 3, 4, 0] rfl (Tlp_in (P := fun (s9 : Int32 × Int32) m => V K 8 (mkM am hn m) 60 [(0, .ref am), (4, .int p4), (5, .int s9.1), (6, .int s6.2), (7, .int s9.2)] []) hd ih10)
      · have hd := Tcnd_f q hd
        refine v_iconst (v := (-1)) X dX10_leaf_35 (by decide) ?_
        exact t_iret X hK hd ho dX10_leaf_36
def dkwX10_fault_0 : List UInt8 := [42, 3, 181, 0, 108, 42, 180, 0, 178, 172]
abbrev dktX10_fault_0 : List UInt8 := dkwX10_fault_0 ++ []
theorem dksX10_fault_0 : cX10_fault.data.toList.drop 0 = dktX10_fault_0 := by decide +kernel
theorem dX10_fault_0 : decode cX10_fault 0 = .ok (.aload_n 0, 1) := dk_42 (dk_at dksX10_fault_0 0 rfl rfl)
theorem dX10_fault_1 : decode cX10_fault 1 = .ok (.iconst 0, 1) := dk_3 (dk_at dksX10_fault_0 1 rfl rfl)
theorem dX10_fault_2 : decode cX10_fault 2 = .ok (.putfield 108, 3) := dk_181 0 108 (dk_at dksX10_fault_0 2 rfl rfl)
theorem dX10_fault_5 : decode cX10_fault 5 = .ok (.aload_n 0, 1) := dk_42 (dk_at dksX10_fault_0 5 rfl rfl)
theorem dX10_fault_6 : decode cX10_fault 6 = .ok (.getfield 178, 3) := dk_180 0 178 (dk_at dksX10_fault_0 6 rfl rfl)
theorem dX10_fault_9 : decode cX10_fault 9 = .ok (.ireturn, 1) := dk_172 (dk_at dksX10_fault_0 9 rfl rfl)
theorem fl_X10_178 : gFl "BitingDoorsModel" 178 [8] 10 := by
  intro args s hts hN ci hc
  simp only [List.mem_cons, List.not_mem_nil, or_false] at hc
  subst hc
  exact ⟨RX10, TX10, 64, "BitingDoorsModel", gCl_X10, in_X10, by decide, Or.inl (hts _ q1660), fun _ h => h⟩
theorem dn_X10_fault : yX10_fault.cls ≠ "java/lang/invoke/MethodHandle" ∧ yX10_fault.cls ≠ "java/lang/invoke/VarHandle" ∧ (parseMethodDescriptor yX10_fault.desc).map (fun d => d.parameters.length) = some 0 := by decide +kernel
noncomputable def M_X10_fault  : TM Int32 := TM.bind (sI 0 0) (fun _ => TM.bind (tI 10) (fun v1 => TM.pure v1))
set_option maxHeartbeats 4000000 in
theorem ct_X10_fault (G : gG) (am : Nat)  : gCtM G am yX10_fault cX10_fault 1 (some .int) 0 0 [.ref am] (M_X10_fault) (fun x : Int32 => some (.int x)) := by
  refine gCtM.of (by decide) (Nat.le_of_ble_eq_true rfl) (fun K hn ms ms' r hG X hK hd ho => ?_)
  subst hG
  have X : gX K cX10_fault 1 "BitingDoorsModel" "fault" (some .int) 0 0 := X
  show V K 1 (mkM am hn ms) 0 [(0, .ref am)] []
  unfold M_X10_fault at hd
  refine v_aload_n X dX10_fault_0 0 0 rfl rfl ?_
  refine v_iconst (v := 0) X dX10_fault_1 (by decide) ?_
  refine t_putI X hd rfl fp_X10_108 dX10_fault_2 (fun ms hd => ?_)
  refine v_aload_n X dX10_fault_5 0 0 rfl rfl ?_
  refine t_getI X hd rfl fl_X10_178 dX10_fault_6 (fun v1 hd => ?_)
  exact t_iret X hK hd ho dX10_fault_9
def dkwX10_stuck_2 : List UInt8 := [60, 132, 2, 1, 167, 255, 217, 27, 172]
abbrev dktX10_stuck_2 : List UInt8 := dkwX10_stuck_2 ++ []
def dkwX10_stuck_1 : List UInt8 := [153, 0, 14, 28, 184, 1, 74, 27, 184, 1, 74, 162, 0, 14, 42, 3, 28, 182, 1, 92, 154, 0, 5, 28]
abbrev dktX10_stuck_1 : List UInt8 := dkwX10_stuck_1 ++ dktX10_stuck_2
def dkwX10_stuck_0 : List UInt8 := [42, 3, 181, 0, 108, 42, 182, 1, 36, 3, 60, 4, 61, 28, 4, 42, 182, 0, 211, 120, 162, 0, 35, 27]
abbrev dktX10_stuck_0 : List UInt8 := dkwX10_stuck_0 ++ dktX10_stuck_1
theorem dksX10_stuck_0 : cX10_stuck.data.toList.drop 0 = dktX10_stuck_0 := by decide +kernel
theorem dksX10_stuck_1 : cX10_stuck.data.toList.drop 24 = dktX10_stuck_1 := dk_seg dksX10_stuck_0 24 rfl rfl
theorem dksX10_stuck_2 : cX10_stuck.data.toList.drop 48 = dktX10_stuck_2 := dk_seg dksX10_stuck_1 24 rfl rfl
theorem dX10_stuck_0 : decode cX10_stuck 0 = .ok (.aload_n 0, 1) := dk_42 (dk_at dksX10_stuck_0 0 rfl rfl)
theorem dX10_stuck_1 : decode cX10_stuck 1 = .ok (.iconst 0, 1) := dk_3 (dk_at dksX10_stuck_0 1 rfl rfl)
theorem dX10_stuck_2 : decode cX10_stuck 2 = .ok (.putfield 108, 3) := dk_181 0 108 (dk_at dksX10_stuck_0 2 rfl rfl)
theorem dX10_stuck_5 : decode cX10_stuck 5 = .ok (.aload_n 0, 1) := dk_42 (dk_at dksX10_stuck_0 5 rfl rfl)
theorem dX10_stuck_6 : decode cX10_stuck 6 = .ok (.invokevirtual 292, 3) := dk_182 1 36 (dk_at dksX10_stuck_0 6 rfl rfl)
theorem dX10_stuck_9 : decode cX10_stuck 9 = .ok (.iconst 0, 1) := dk_3 (dk_at dksX10_stuck_0 9 rfl rfl)
theorem dX10_stuck_10 : decode cX10_stuck 10 = .ok (.istore_n 1, 1) := dk_60 (dk_at dksX10_stuck_0 10 rfl rfl)
theorem dX10_stuck_11 : decode cX10_stuck 11 = .ok (.iconst 1, 1) := dk_4 (dk_at dksX10_stuck_0 11 rfl rfl)
theorem dX10_stuck_12 : decode cX10_stuck 12 = .ok (.istore_n 2, 1) := dk_61 (dk_at dksX10_stuck_0 12 rfl rfl)
theorem dX10_stuck_13 : decode cX10_stuck 13 = .ok (.iload_n 2, 1) := dk_28 (dk_at dksX10_stuck_0 13 rfl rfl)
theorem dX10_stuck_14 : decode cX10_stuck 14 = .ok (.iconst 1, 1) := dk_4 (dk_at dksX10_stuck_0 14 rfl rfl)
theorem dX10_stuck_15 : decode cX10_stuck 15 = .ok (.aload_n 0, 1) := dk_42 (dk_at dksX10_stuck_0 15 rfl rfl)
theorem dX10_stuck_16 : decode cX10_stuck 16 = .ok (.invokevirtual 211, 3) := dk_182 0 211 (dk_at dksX10_stuck_0 16 rfl rfl)
theorem dX10_stuck_19 : decode cX10_stuck 19 = .ok (.ishl, 1) := dk_120 (dk_at dksX10_stuck_0 19 rfl rfl)
theorem dX10_stuck_20 : decode cX10_stuck 20 = .ok (.if_icmp .ge 35, 3) := dk_162 0 35 (dk_at dksX10_stuck_0 20 rfl rfl)
theorem dX10_stuck_23 : decode cX10_stuck 23 = .ok (.iload_n 1, 1) := dk_27 (dk_at dksX10_stuck_0 23 rfl rfl)
theorem dX10_stuck_24 : decode cX10_stuck 24 = .ok (.ifCond .eq 14, 3) := dk_153 0 14 (dk_at dksX10_stuck_1 0 rfl rfl)
theorem dX10_stuck_27 : decode cX10_stuck 27 = .ok (.iload_n 2, 1) := dk_28 (dk_at dksX10_stuck_1 3 rfl rfl)
theorem dX10_stuck_28 : decode cX10_stuck 28 = .ok (.invokestatic 330, 3) := dk_184 1 74 (dk_at dksX10_stuck_1 4 rfl rfl)
theorem dX10_stuck_31 : decode cX10_stuck 31 = .ok (.iload_n 1, 1) := dk_27 (dk_at dksX10_stuck_1 7 rfl rfl)
theorem dX10_stuck_32 : decode cX10_stuck 32 = .ok (.invokestatic 330, 3) := dk_184 1 74 (dk_at dksX10_stuck_1 8 rfl rfl)
theorem dX10_stuck_35 : decode cX10_stuck 35 = .ok (.if_icmp .ge 14, 3) := dk_162 0 14 (dk_at dksX10_stuck_1 11 rfl rfl)
theorem dX10_stuck_38 : decode cX10_stuck 38 = .ok (.aload_n 0, 1) := dk_42 (dk_at dksX10_stuck_1 14 rfl rfl)
theorem dX10_stuck_39 : decode cX10_stuck 39 = .ok (.iconst 0, 1) := dk_3 (dk_at dksX10_stuck_1 15 rfl rfl)
theorem dX10_stuck_40 : decode cX10_stuck 40 = .ok (.iload_n 2, 1) := dk_28 (dk_at dksX10_stuck_1 16 rfl rfl)
theorem dX10_stuck_41 : decode cX10_stuck 41 = .ok (.invokevirtual 348, 3) := dk_182 1 92 (dk_at dksX10_stuck_1 17 rfl rfl)
theorem dX10_stuck_44 : decode cX10_stuck 44 = .ok (.ifCond .ne 5, 3) := dk_154 0 5 (dk_at dksX10_stuck_1 20 rfl rfl)
theorem dX10_stuck_47 : decode cX10_stuck 47 = .ok (.iload_n 2, 1) := dk_28 (dk_at dksX10_stuck_1 23 rfl rfl)
theorem dX10_stuck_48 : decode cX10_stuck 48 = .ok (.istore_n 1, 1) := dk_60 (dk_at dksX10_stuck_2 0 rfl rfl)
theorem dX10_stuck_49 : decode cX10_stuck 49 = .ok (.iinc 2 1, 3) := dk_132 2 1 (dk_at dksX10_stuck_2 1 rfl rfl)
theorem dX10_stuck_52 : decode cX10_stuck 52 = .ok (.goto (-39), 3) := dk_167 255 217 (dk_at dksX10_stuck_2 4 rfl rfl)
theorem dX10_stuck_55 : decode cX10_stuck 55 = .ok (.iload_n 1, 1) := dk_27 (dk_at dksX10_stuck_2 7 rfl rfl)
theorem dX10_stuck_56 : decode cX10_stuck 56 = .ok (.ireturn, 1) := dk_172 (dk_at dksX10_stuck_2 8 rfl rfl)
theorem dn_X10_stuck : yX10_stuck.cls ≠ "java/lang/invoke/MethodHandle" ∧ yX10_stuck.cls ≠ "java/lang/invoke/VarHandle" ∧ (parseMethodDescriptor yX10_stuck.desc).map (fun d => d.parameters.length) = some 0 := by decide +kernel
noncomputable def M_X10_stuck  : TM Int32 := TM.bind (sI 0 0) (fun _ => TM.bind (M_X10_laySwept) (fun v1 => TM.bind (TM.loop (S := Int32 × Int32) (E := Int32) (fun s2 => TM.bind (M_X10_doors) (fun v6 => if (1 <<< (v6 &&& 31)) ≤ s2.2 then TM.pure (Sum.inr s2.1) else TM.bind ((if s2.1 = 0 then TM.bind (M_X10_canHang 12 0 s2.2) (fun v9 => cond v9 (TM.pure s2.1) (TM.pure s2.2)) else TM.bind (M_X10_bits s2.2) (fun v10 => TM.bind (M_X10_bits s2.1) (fun v11 => if v11 ≤ v10 then TM.pure s2.1 else TM.bind (M_X10_canHang 12 0 s2.2) (fun v12 => cond v12 (TM.pure s2.1) (TM.pure s2.2)))) : TM (Int32))) (fun u7 => TM.lv (s2.2 + 1) (fun v8 => TM.pure (Sum.inl (u7, v8)))))) (0, 1)) (fun e5 => TM.pure e5)))
set_option maxHeartbeats 4000000 in
theorem ct_X10_stuck (G : gG) (am : Nat)  : gCtM G am yX10_stuck cX10_stuck 3 (some .int) 15 347 [.ref am] (M_X10_stuck) (fun x : Int32 => some (.int x)) := by
  refine gCtM.of (by decide) (Nat.le_of_ble_eq_true rfl) (fun K hn ms ms' r hG X hK hd ho => ?_)
  subst hG
  have X : gX K cX10_stuck 3 "BitingDoorsModel" "stuck" (some .int) 15 347 := X
  show V K 3 (mkM am hn ms) 0 [(0, .ref am)] []
  unfold M_X10_stuck at hd
  refine v_aload_n X dX10_stuck_0 0 0 rfl rfl ?_
  refine v_iconst (v := 0) X dX10_stuck_1 (by decide) ?_
  refine t_putI X hd rfl fp_X10_108 dX10_stuck_2 (fun ms hd => ?_)
  refine v_aload_n X dX10_stuck_5 0 0 rfl rfl ?_
  refine t_callV X hK hd (ct_X10_laySwept _ am) (lw_V q2030 q2032 qs64 q120 q2033) ⟨rfl, dn_X10_laySwept⟩ rfl ⟨by decide, by decide⟩ rfl (Nat.le_of_ble_eq_true rfl) dX10_stuck_6 (fun v1 ms hd => ?_)
  show V K 3 (mkM am hn ms) 9 [(0, .ref am)] []
  refine v_iconst (v := 0) X dX10_stuck_9 (by decide) ?_
  refine v_istore_n (lv2 := [(1, .int 0), (0, .ref am)]) X dX10_stuck_10 1 rfl (by decide) rfl ?_
  refine v_iconst (v := 1) X dX10_stuck_11 (by decide) ?_
  refine v_istore_n (lv2 := [(2, .int 1), (1, .int 0), (0, .ref am)]) X dX10_stuck_12 2 rfl (by decide) rfl ?_
  obtain ⟨e5, m1, hd, hd2⟩ := TM.bind_some hd
  have KX : V K 3 (mkM am hn m1) 55 [(1, .int e5)] [] := by
    clear hd
    have hd := hd2
    refine v_iload_n X dX10_stuck_55 0 1 rfl rfl ?_
    exact t_iret X hK hd ho dX10_stuck_56
  clear hd2
  refine v_loc [2, 1, 0] rfl ?_
  refine Tloop_ind hd (fun (s2 : Int32 × Int32) m => V K 3 (mkM am hn m) 13 [(0, .ref am), (1, .int s2.1), (2, .int s2.2)] []) (fun s2 ms x m2 hd ih3 ho4 => ?_)
  refine v_iload_n X dX10_stuck_13 2 2 rfl rfl ?_
  refine v_iconst (v := 1) X dX10_stuck_14 (by decide) ?_
  refine v_aload_n X dX10_stuck_15 0 0 rfl rfl ?_
  refine t_callV X hK hd (ct_X10_doors _ am) (lw_V q1986 q1988 qs57 q120 q1989) ⟨rfl, dn_X10_doors⟩ rfl ⟨by decide, by decide⟩ rfl (Nat.le_of_ble_eq_true rfl) dX10_stuck_16 (fun v6 ms hd => ?_)
  show V K 3 (mkM am hn ms) 19 [(0, .ref am), (1, .int s2.1), (2, .int s2.2)] [.int v6, .int 1, .int s2.2]
  refine v_ishl X dX10_stuck_19 ?_
  refine v_icmp_ge (tgt := 55) X dX10_stuck_20 (by decide) (fun q => ?_) (fun q => ?_)
  · have hd := Tite_t q hd
    exact v_loc [1] rfl (t_at (P := fun (e5 : Int32) m => V K 3 (mkM am hn m) 55 [(1, .int e5)] []) (Tlp_out hd ho4) KX)
  · have hd := Tite_f q hd
    refine v_iload_n X dX10_stuck_23 1 1 rfl rfl ?_
    obtain ⟨u7, m1, hd, hd2⟩ := TM.bind_some hd
    have KJ : V K 3 (mkM am hn m1) 49 [(0, .ref am), (1, .int u7), (2, .int s2.2)] [] := by
      clear hd
      have hd := hd2
      refine t_iincL (lv2 := fun v8 => [(2, .int v8), (0, .ref am), (1, .int u7)]) X hd dX10_stuck_49 2 rfl (by decide : Int32.ofInt 1 = 1) (by decide) (fun v8 => rfl) (fun v8 hd => ?_)
      refine v_goto (tgt := 13) X dX10_stuck_52 (by decide) ?_
      exact v_loc [1, 2, 0] rfl (Tlp_in (P := fun (s2 : Int32 × Int32) m => V K 3 (mkM am hn m) 13 [(0, .ref am), (1, .int s2.1), (2, .int s2.2)] []) hd ih3)
    clear hd2
    refine v_if_eq (tgt := 38) X dX10_stuck_24 (by decide) (fun q => ?_) (fun q => ?_)
    · have hd := Tite_t q hd
      refine v_aload_n X dX10_stuck_38 0 0 rfl rfl ?_
      refine v_iconst (v := 0) X dX10_stuck_39 (by decide) ?_
      refine v_iload_n X dX10_stuck_40 2 2 rfl rfl ?_
      refine t_callV X hK hd (ct_X10_canHang _ am 12 0 s2.2) (lw_V q2124 q2126 qs76 q120 q2127) ⟨rfl, dn_X10_canHang⟩ rfl ⟨by decide, by decide⟩ rfl (Nat.le_of_ble_eq_true rfl) dX10_stuck_41 (fun v9 ms hd => ?_)
      show V K 3 (mkM am hn ms) 44 [(0, .ref am), (1, .int s2.1), (2, .int s2.2)] [.int (b2i v9)]
      refine v_ifZ_ne (tgt := 49) X dX10_stuck_44 (by decide) (fun q => ?_) (fun q => ?_)
      · have hd := Tcnd_t q hd
        exact v_loc [0, 1, 2] rfl (t_at (P := fun (u7 : Int32) m => V K 3 (mkM am hn m) 49 [(0, .ref am), (1, .int u7), (2, .int s2.2)] []) hd KJ)
      · have hd := Tcnd_f q hd
        refine v_iload_n X dX10_stuck_47 2 2 rfl rfl ?_
        refine v_istore_n (lv2 := [(1, .int s2.2), (0, .ref am), (2, .int s2.2)]) X dX10_stuck_48 1 rfl (by decide) rfl ?_
        exact v_loc [1, 0, 2] rfl (t_at (P := fun (u7 : Int32) m => V K 3 (mkM am hn m) 49 [(0, .ref am), (1, .int u7), (2, .int s2.2)] []) hd KJ)
    · have hd := Tite_f q hd
      refine v_iload_n X dX10_stuck_27 2 2 rfl rfl ?_
      refine t_callS X hK hd (ct_X10_bits _ am s2.2) (lw_S q2109 q2110 q120 q2111) dn_X10_bits rfl ⟨by decide, by decide⟩ rfl (Nat.le_of_ble_eq_true rfl) dX10_stuck_28 (fun v10 ms hd => ?_)
      show V K 3 (mkM am hn ms) 31 [(0, .ref am), (1, .int s2.1), (2, .int s2.2)] [.int v10]
      refine v_iload_n X dX10_stuck_31 1 1 rfl rfl ?_
      refine t_callS X hK hd (ct_X10_bits _ am s2.1) (lw_S q2109 q2110 q120 q2111) dn_X10_bits rfl ⟨by decide, by decide⟩ rfl (Nat.le_of_ble_eq_true rfl) dX10_stuck_32 (fun v11 ms hd => ?_)
      show V K 3 (mkM am hn ms) 35 [(0, .ref am), (1, .int s2.1), (2, .int s2.2)] [.int v11, .int v10]
      refine v_icmp_ge (tgt := 49) X dX10_stuck_35 (by decide) (fun q => ?_) (fun q => ?_)
      · have hd := Tite_t q hd
        exact v_loc [0, 1, 2] rfl (t_at (P := fun (u7 : Int32) m => V K 3 (mkM am hn m) 49 [(0, .ref am), (1, .int u7), (2, .int s2.2)] []) hd KJ)
      · have hd := Tite_f q hd
        refine v_aload_n X dX10_stuck_38 0 0 rfl rfl ?_
        refine v_iconst (v := 0) X dX10_stuck_39 (by decide) ?_
        refine v_iload_n X dX10_stuck_40 2 2 rfl rfl ?_
        refine t_callV X hK hd (ct_X10_canHang _ am 12 0 s2.2) (lw_V q2124 q2126 qs76 q120 q2127) ⟨rfl, dn_X10_canHang⟩ rfl ⟨by decide, by decide⟩ rfl (Nat.le_of_ble_eq_true rfl) dX10_stuck_41 (fun v12 ms hd => ?_)
        show V K 3 (mkM am hn ms) 44 [(0, .ref am), (1, .int s2.1), (2, .int s2.2)] [.int (b2i v12)]
        refine v_ifZ_ne (tgt := 49) X dX10_stuck_44 (by decide) (fun q => ?_) (fun q => ?_)
        · have hd := Tcnd_t q hd
          exact v_loc [0, 1, 2] rfl (t_at (P := fun (u7 : Int32) m => V K 3 (mkM am hn m) 49 [(0, .ref am), (1, .int u7), (2, .int s2.2)] []) hd KJ)
        · have hd := Tcnd_f q hd
          refine v_iload_n X dX10_stuck_47 2 2 rfl rfl ?_
          refine v_istore_n (lv2 := [(1, .int s2.2), (0, .ref am), (2, .int s2.2)]) X dX10_stuck_48 1 rfl (by decide) rfl ?_
          exact v_loc [1, 0, 2] rfl (t_at (P := fun (u7 : Int32) m => V K 3 (mkM am hn m) 49 [(0, .ref am), (1, .int u7), (2, .int s2.2)] []) hd KJ)
def dkwX10_minutes_0 : List UInt8 := [42, 3, 181, 0, 108, 42, 180, 0, 255, 172]
abbrev dktX10_minutes_0 : List UInt8 := dkwX10_minutes_0 ++ []
theorem dksX10_minutes_0 : cX10_minutes.data.toList.drop 0 = dktX10_minutes_0 := by decide +kernel
theorem dX10_minutes_0 : decode cX10_minutes 0 = .ok (.aload_n 0, 1) := dk_42 (dk_at dksX10_minutes_0 0 rfl rfl)
theorem dX10_minutes_1 : decode cX10_minutes 1 = .ok (.iconst 0, 1) := dk_3 (dk_at dksX10_minutes_0 1 rfl rfl)
theorem dX10_minutes_2 : decode cX10_minutes 2 = .ok (.putfield 108, 3) := dk_181 0 108 (dk_at dksX10_minutes_0 2 rfl rfl)
theorem dX10_minutes_5 : decode cX10_minutes 5 = .ok (.aload_n 0, 1) := dk_42 (dk_at dksX10_minutes_0 5 rfl rfl)
theorem dX10_minutes_6 : decode cX10_minutes 6 = .ok (.getfield 255, 3) := dk_180 0 255 (dk_at dksX10_minutes_0 6 rfl rfl)
theorem dX10_minutes_9 : decode cX10_minutes 9 = .ok (.ireturn, 1) := dk_172 (dk_at dksX10_minutes_0 9 rfl rfl)
theorem dn_X10_minutes : yX10_minutes.cls ≠ "java/lang/invoke/MethodHandle" ∧ yX10_minutes.cls ≠ "java/lang/invoke/VarHandle" ∧ (parseMethodDescriptor yX10_minutes.desc).map (fun d => d.parameters.length) = some 0 := by decide +kernel
noncomputable def M_X10_minutes  : TM Int32 := TM.bind (sI 0 0) (fun _ => TM.bind (tI 23) (fun v1 => TM.pure v1))
set_option maxHeartbeats 4000000 in
theorem ct_X10_minutes (G : gG) (am : Nat)  : gCtM G am yX10_minutes cX10_minutes 1 (some .int) 0 0 [.ref am] (M_X10_minutes) (fun x : Int32 => some (.int x)) := by
  refine gCtM.of (by decide) (Nat.le_of_ble_eq_true rfl) (fun K hn ms ms' r hG X hK hd ho => ?_)
  subst hG
  have X : gX K cX10_minutes 1 "BitingDoorsModel" "minutes" (some .int) 0 0 := X
  show V K 1 (mkM am hn ms) 0 [(0, .ref am)] []
  unfold M_X10_minutes at hd
  refine v_aload_n X dX10_minutes_0 0 0 rfl rfl ?_
  refine v_iconst (v := 0) X dX10_minutes_1 (by decide) ?_
  refine t_putI X hd rfl fp_X10_108 dX10_minutes_2 (fun ms hd => ?_)
  refine v_aload_n X dX10_minutes_5 0 0 rfl rfl ?_
  refine t_getI X hd rfl fl_X10_255 dX10_minutes_6 (fun v1 hd => ?_)
  exact t_iret X hK hd ho dX10_minutes_9
def dkwX10_joinerAt_1 : List UInt8 := [167, 0, 4, 2, 172]
abbrev dktX10_joinerAt_1 : List UInt8 := dkwX10_joinerAt_1 ++ []
def dkwX10_joinerAt_0 : List UInt8 := [42, 3, 181, 0, 108, 27, 155, 0, 20, 27, 42, 180, 1, 95, 162, 0, 12, 42, 180, 0, 75, 27, 46]
abbrev dktX10_joinerAt_0 : List UInt8 := dkwX10_joinerAt_0 ++ dktX10_joinerAt_1
theorem dksX10_joinerAt_0 : cX10_joinerAt.data.toList.drop 0 = dktX10_joinerAt_0 := by decide +kernel
theorem dksX10_joinerAt_1 : cX10_joinerAt.data.toList.drop 23 = dktX10_joinerAt_1 := dk_seg dksX10_joinerAt_0 23 rfl rfl
theorem dX10_joinerAt_0 : decode cX10_joinerAt 0 = .ok (.aload_n 0, 1) := dk_42 (dk_at dksX10_joinerAt_0 0 rfl rfl)
theorem dX10_joinerAt_1 : decode cX10_joinerAt 1 = .ok (.iconst 0, 1) := dk_3 (dk_at dksX10_joinerAt_0 1 rfl rfl)
theorem dX10_joinerAt_2 : decode cX10_joinerAt 2 = .ok (.putfield 108, 3) := dk_181 0 108 (dk_at dksX10_joinerAt_0 2 rfl rfl)
theorem dX10_joinerAt_5 : decode cX10_joinerAt 5 = .ok (.iload_n 1, 1) := dk_27 (dk_at dksX10_joinerAt_0 5 rfl rfl)
theorem dX10_joinerAt_6 : decode cX10_joinerAt 6 = .ok (.ifCond .lt 20, 3) := dk_155 0 20 (dk_at dksX10_joinerAt_0 6 rfl rfl)
theorem dX10_joinerAt_9 : decode cX10_joinerAt 9 = .ok (.iload_n 1, 1) := dk_27 (dk_at dksX10_joinerAt_0 9 rfl rfl)
theorem dX10_joinerAt_10 : decode cX10_joinerAt 10 = .ok (.aload_n 0, 1) := dk_42 (dk_at dksX10_joinerAt_0 10 rfl rfl)
theorem dX10_joinerAt_11 : decode cX10_joinerAt 11 = .ok (.getfield 351, 3) := dk_180 1 95 (dk_at dksX10_joinerAt_0 11 rfl rfl)
theorem dX10_joinerAt_14 : decode cX10_joinerAt 14 = .ok (.if_icmp .ge 12, 3) := dk_162 0 12 (dk_at dksX10_joinerAt_0 14 rfl rfl)
theorem dX10_joinerAt_17 : decode cX10_joinerAt 17 = .ok (.aload_n 0, 1) := dk_42 (dk_at dksX10_joinerAt_0 17 rfl rfl)
theorem dX10_joinerAt_18 : decode cX10_joinerAt 18 = .ok (.getfield 75, 3) := dk_180 0 75 (dk_at dksX10_joinerAt_0 18 rfl rfl)
theorem dX10_joinerAt_21 : decode cX10_joinerAt 21 = .ok (.iload_n 1, 1) := dk_27 (dk_at dksX10_joinerAt_0 21 rfl rfl)
theorem dX10_joinerAt_22 : decode cX10_joinerAt 22 = .ok (.iaload, 1) := dk_46 (dk_at dksX10_joinerAt_0 22 rfl rfl)
theorem dX10_joinerAt_23 : decode cX10_joinerAt 23 = .ok (.goto 4, 3) := dk_167 0 4 (dk_at dksX10_joinerAt_1 0 rfl rfl)
theorem dX10_joinerAt_26 : decode cX10_joinerAt 26 = .ok (.iconst (-1), 1) := dk_2 (dk_at dksX10_joinerAt_1 3 rfl rfl)
theorem dX10_joinerAt_27 : decode cX10_joinerAt 27 = .ok (.ireturn, 1) := dk_172 (dk_at dksX10_joinerAt_1 4 rfl rfl)
theorem dn_X10_joinerAt : yX10_joinerAt.cls ≠ "java/lang/invoke/MethodHandle" ∧ yX10_joinerAt.cls ≠ "java/lang/invoke/VarHandle" ∧ (parseMethodDescriptor yX10_joinerAt.desc).map (fun d => d.parameters.length) = some 1 := by decide +kernel
noncomputable def M_X10_joinerAt (p1 : Int32) : TM Int32 := TM.bind (sI 0 0) (fun _ => TM.bind ((if p1 < 0 then TM.pure (-1) else TM.bind (tI 42) (fun v2 => if v2 ≤ p1 then TM.pure (-1) else TM.bind (tA 41 10 p1) (fun v3 => TM.pure v3)) : TM (Int32))) (fun u1 => TM.pure u1))
set_option maxHeartbeats 4000000 in
theorem ct_X10_joinerAt (G : gG) (am : Nat) (p1 : Int32) : gCtM G am yX10_joinerAt cX10_joinerAt 2 (some .int) 0 0 [.ref am, .int p1] (M_X10_joinerAt p1) (fun x : Int32 => some (.int x)) := by
  refine gCtM.of (by decide) (Nat.le_of_ble_eq_true rfl) (fun K hn ms ms' r hG X hK hd ho => ?_)
  subst hG
  have X : gX K cX10_joinerAt 2 "BitingDoorsModel" "joinerAt" (some .int) 0 0 := X
  show V K 2 (mkM am hn ms) 0 [(0, .ref am), (1, .int p1)] []
  unfold M_X10_joinerAt at hd
  refine v_aload_n X dX10_joinerAt_0 0 0 rfl rfl ?_
  refine v_iconst (v := 0) X dX10_joinerAt_1 (by decide) ?_
  refine t_putI X hd rfl fp_X10_108 dX10_joinerAt_2 (fun ms hd => ?_)
  refine v_iload_n X dX10_joinerAt_5 1 1 rfl rfl ?_
  obtain ⟨u1, m1, hd, hd2⟩ := TM.bind_some hd
  have KJ : V K 2 (mkM am hn m1) 27 [] [.int u1] := by
    clear hd
    have hd := hd2
    exact t_iret X hK hd ho dX10_joinerAt_27
  clear hd2
  refine v_if_lt (tgt := 26) X dX10_joinerAt_6 (by decide) (fun q => ?_) (fun q => ?_)
  · have hd := Tite_t q hd
    refine v_iconst (v := (-1)) X dX10_joinerAt_26 (by decide) ?_
    exact v_loc [] rfl (t_at (P := fun (u1 : Int32) m => V K 2 (mkM am hn m) 27 [] [.int u1]) hd KJ)
  · have hd := Tite_f q hd
    refine v_iload_n X dX10_joinerAt_9 1 1 rfl rfl ?_
    refine v_aload_n X dX10_joinerAt_10 0 0 rfl rfl ?_
    refine t_getI X hd rfl fl_X10_351 dX10_joinerAt_11 (fun v2 hd => ?_)
    refine v_icmp_ge (tgt := 26) X dX10_joinerAt_14 (by decide) (fun q => ?_) (fun q => ?_)
    · have hd := Tite_t q hd
      refine v_iconst (v := (-1)) X dX10_joinerAt_26 (by decide) ?_
      exact v_loc [] rfl (t_at (P := fun (u1 : Int32) m => V K 2 (mkM am hn m) 27 [] [.int u1]) hd KJ)
    · have hd := Tite_f q hd
      refine v_aload_n X dX10_joinerAt_17 0 0 rfl rfl ?_
      refine t_getA (j := 21) X rfl fl_X10_75 dX10_joinerAt_18 ?_
      refine v_iload_n X dX10_joinerAt_21 1 1 rfl rfl ?_
      refine t_iald (j := 21) X hd rfl dX10_joinerAt_22 (fun v3 hd => ?_)
      refine v_goto (tgt := 27) X dX10_joinerAt_23 (by decide) ?_
      exact v_loc [] rfl (t_at (P := fun (u1 : Int32) m => V K 2 (mkM am hn m) 27 [] [.int u1]) hd KJ)
def dkwX10_readBed_4 : List UInt8 := [172, 42, 180, 0, 16, 7, 16, 10, 42, 180, 0, 148, 104, 27, 96, 79, 42, 182, 0, 194, 4, 172]
abbrev dktX10_readBed_4 : List UInt8 := dkwX10_readBed_4 ++ []
def dkwX10_readBed_3 : List UInt8 := [180, 0, 16, 16, 10, 16, 10, 42, 180, 0, 148, 104, 96, 27, 96, 46, 153, 0, 9, 42, 5, 182, 0, 184]
abbrev dktX10_readBed_3 : List UInt8 := dkwX10_readBed_3 ++ dktX10_readBed_4
def dkwX10_readBed_2 : List UInt8 := [6, 159, 0, 9, 42, 4, 182, 0, 184, 172, 42, 180, 0, 148, 42, 180, 0, 16, 4, 46, 162, 0, 23, 42]
abbrev dktX10_readBed_2 : List UInt8 := dkwX10_readBed_2 ++ dktX10_readBed_3
def dkwX10_readBed_1 : List UInt8 := [180, 0, 16, 3, 46, 4, 100, 182, 0, 220, 154, 0, 5, 3, 172, 42, 180, 0, 191, 60, 42, 180, 0, 131]
abbrev dktX10_readBed_1 : List UInt8 := dkwX10_readBed_1 ++ dktX10_readBed_2
def dkwX10_readBed_0 : List UInt8 := [42, 180, 0, 16, 7, 46, 2, 159, 0, 9, 42, 6, 182, 0, 184, 172, 42, 182, 0, 194, 42, 3, 42]
abbrev dktX10_readBed_0 : List UInt8 := dkwX10_readBed_0 ++ dktX10_readBed_1
theorem dksX10_readBed_0 : cX10_readBed.data.toList.drop 0 = dktX10_readBed_0 := by decide +kernel
theorem dksX10_readBed_1 : cX10_readBed.data.toList.drop 23 = dktX10_readBed_1 := dk_seg dksX10_readBed_0 23 rfl rfl
theorem dksX10_readBed_2 : cX10_readBed.data.toList.drop 47 = dktX10_readBed_2 := dk_seg dksX10_readBed_1 24 rfl rfl
theorem dksX10_readBed_3 : cX10_readBed.data.toList.drop 71 = dktX10_readBed_3 := dk_seg dksX10_readBed_2 24 rfl rfl
theorem dksX10_readBed_4 : cX10_readBed.data.toList.drop 95 = dktX10_readBed_4 := dk_seg dksX10_readBed_3 24 rfl rfl
theorem dX10_readBed_0 : decode cX10_readBed 0 = .ok (.aload_n 0, 1) := dk_42 (dk_at dksX10_readBed_0 0 rfl rfl)
theorem dX10_readBed_1 : decode cX10_readBed 1 = .ok (.getfield 16, 3) := dk_180 0 16 (dk_at dksX10_readBed_0 1 rfl rfl)
theorem dX10_readBed_4 : decode cX10_readBed 4 = .ok (.iconst 4, 1) := dk_7 (dk_at dksX10_readBed_0 4 rfl rfl)
theorem dX10_readBed_5 : decode cX10_readBed 5 = .ok (.iaload, 1) := dk_46 (dk_at dksX10_readBed_0 5 rfl rfl)
theorem dX10_readBed_6 : decode cX10_readBed 6 = .ok (.iconst (-1), 1) := dk_2 (dk_at dksX10_readBed_0 6 rfl rfl)
theorem dX10_readBed_7 : decode cX10_readBed 7 = .ok (.if_icmp .eq 9, 3) := dk_159 0 9 (dk_at dksX10_readBed_0 7 rfl rfl)
theorem dX10_readBed_10 : decode cX10_readBed 10 = .ok (.aload_n 0, 1) := dk_42 (dk_at dksX10_readBed_0 10 rfl rfl)
theorem dX10_readBed_11 : decode cX10_readBed 11 = .ok (.iconst 3, 1) := dk_6 (dk_at dksX10_readBed_0 11 rfl rfl)
theorem dX10_readBed_12 : decode cX10_readBed 12 = .ok (.invokevirtual 184, 3) := dk_182 0 184 (dk_at dksX10_readBed_0 12 rfl rfl)
theorem dX10_readBed_15 : decode cX10_readBed 15 = .ok (.ireturn, 1) := dk_172 (dk_at dksX10_readBed_0 15 rfl rfl)
theorem dX10_readBed_16 : decode cX10_readBed 16 = .ok (.aload_n 0, 1) := dk_42 (dk_at dksX10_readBed_0 16 rfl rfl)
theorem dX10_readBed_17 : decode cX10_readBed 17 = .ok (.invokevirtual 194, 3) := dk_182 0 194 (dk_at dksX10_readBed_0 17 rfl rfl)
theorem dX10_readBed_20 : decode cX10_readBed 20 = .ok (.aload_n 0, 1) := dk_42 (dk_at dksX10_readBed_0 20 rfl rfl)
theorem dX10_readBed_21 : decode cX10_readBed 21 = .ok (.iconst 0, 1) := dk_3 (dk_at dksX10_readBed_0 21 rfl rfl)
theorem dX10_readBed_22 : decode cX10_readBed 22 = .ok (.aload_n 0, 1) := dk_42 (dk_at dksX10_readBed_0 22 rfl rfl)
theorem dX10_readBed_23 : decode cX10_readBed 23 = .ok (.getfield 16, 3) := dk_180 0 16 (dk_at dksX10_readBed_1 0 rfl rfl)
theorem dX10_readBed_26 : decode cX10_readBed 26 = .ok (.iconst 0, 1) := dk_3 (dk_at dksX10_readBed_1 3 rfl rfl)
theorem dX10_readBed_27 : decode cX10_readBed 27 = .ok (.iaload, 1) := dk_46 (dk_at dksX10_readBed_1 4 rfl rfl)
theorem dX10_readBed_28 : decode cX10_readBed 28 = .ok (.iconst 1, 1) := dk_4 (dk_at dksX10_readBed_1 5 rfl rfl)
theorem dX10_readBed_29 : decode cX10_readBed 29 = .ok (.isub, 1) := dk_100 (dk_at dksX10_readBed_1 6 rfl rfl)
theorem dX10_readBed_30 : decode cX10_readBed 30 = .ok (.invokevirtual 220, 3) := dk_182 0 220 (dk_at dksX10_readBed_1 7 rfl rfl)
theorem dX10_readBed_33 : decode cX10_readBed 33 = .ok (.ifCond .ne 5, 3) := dk_154 0 5 (dk_at dksX10_readBed_1 10 rfl rfl)
theorem dX10_readBed_36 : decode cX10_readBed 36 = .ok (.iconst 0, 1) := dk_3 (dk_at dksX10_readBed_1 13 rfl rfl)
theorem dX10_readBed_37 : decode cX10_readBed 37 = .ok (.ireturn, 1) := dk_172 (dk_at dksX10_readBed_1 14 rfl rfl)
theorem dX10_readBed_38 : decode cX10_readBed 38 = .ok (.aload_n 0, 1) := dk_42 (dk_at dksX10_readBed_1 15 rfl rfl)
theorem dX10_readBed_39 : decode cX10_readBed 39 = .ok (.getfield 191, 3) := dk_180 0 191 (dk_at dksX10_readBed_1 16 rfl rfl)
theorem dX10_readBed_42 : decode cX10_readBed 42 = .ok (.istore_n 1, 1) := dk_60 (dk_at dksX10_readBed_1 19 rfl rfl)
theorem dX10_readBed_43 : decode cX10_readBed 43 = .ok (.aload_n 0, 1) := dk_42 (dk_at dksX10_readBed_1 20 rfl rfl)
theorem dX10_readBed_44 : decode cX10_readBed 44 = .ok (.getfield 131, 3) := dk_180 0 131 (dk_at dksX10_readBed_1 21 rfl rfl)
theorem dX10_readBed_47 : decode cX10_readBed 47 = .ok (.iconst 3, 1) := dk_6 (dk_at dksX10_readBed_2 0 rfl rfl)
theorem dX10_readBed_48 : decode cX10_readBed 48 = .ok (.if_icmp .eq 9, 3) := dk_159 0 9 (dk_at dksX10_readBed_2 1 rfl rfl)
theorem dX10_readBed_51 : decode cX10_readBed 51 = .ok (.aload_n 0, 1) := dk_42 (dk_at dksX10_readBed_2 4 rfl rfl)
theorem dX10_readBed_52 : decode cX10_readBed 52 = .ok (.iconst 1, 1) := dk_4 (dk_at dksX10_readBed_2 5 rfl rfl)
theorem dX10_readBed_53 : decode cX10_readBed 53 = .ok (.invokevirtual 184, 3) := dk_182 0 184 (dk_at dksX10_readBed_2 6 rfl rfl)
theorem dX10_readBed_56 : decode cX10_readBed 56 = .ok (.ireturn, 1) := dk_172 (dk_at dksX10_readBed_2 9 rfl rfl)
theorem dX10_readBed_57 : decode cX10_readBed 57 = .ok (.aload_n 0, 1) := dk_42 (dk_at dksX10_readBed_2 10 rfl rfl)
theorem dX10_readBed_58 : decode cX10_readBed 58 = .ok (.getfield 148, 3) := dk_180 0 148 (dk_at dksX10_readBed_2 11 rfl rfl)
theorem dX10_readBed_61 : decode cX10_readBed 61 = .ok (.aload_n 0, 1) := dk_42 (dk_at dksX10_readBed_2 14 rfl rfl)
theorem dX10_readBed_62 : decode cX10_readBed 62 = .ok (.getfield 16, 3) := dk_180 0 16 (dk_at dksX10_readBed_2 15 rfl rfl)
theorem dX10_readBed_65 : decode cX10_readBed 65 = .ok (.iconst 1, 1) := dk_4 (dk_at dksX10_readBed_2 18 rfl rfl)
theorem dX10_readBed_66 : decode cX10_readBed 66 = .ok (.iaload, 1) := dk_46 (dk_at dksX10_readBed_2 19 rfl rfl)
theorem dX10_readBed_67 : decode cX10_readBed 67 = .ok (.if_icmp .ge 23, 3) := dk_162 0 23 (dk_at dksX10_readBed_2 20 rfl rfl)
theorem dX10_readBed_70 : decode cX10_readBed 70 = .ok (.aload_n 0, 1) := dk_42 (dk_at dksX10_readBed_2 23 rfl rfl)
theorem dX10_readBed_71 : decode cX10_readBed 71 = .ok (.getfield 16, 3) := dk_180 0 16 (dk_at dksX10_readBed_3 0 rfl rfl)
theorem dX10_readBed_74 : decode cX10_readBed 74 = .ok (.bipush 10, 2) := dk_16 10 (dk_at dksX10_readBed_3 3 rfl rfl)
theorem dX10_readBed_76 : decode cX10_readBed 76 = .ok (.bipush 10, 2) := dk_16 10 (dk_at dksX10_readBed_3 5 rfl rfl)
theorem dX10_readBed_78 : decode cX10_readBed 78 = .ok (.aload_n 0, 1) := dk_42 (dk_at dksX10_readBed_3 7 rfl rfl)
theorem dX10_readBed_79 : decode cX10_readBed 79 = .ok (.getfield 148, 3) := dk_180 0 148 (dk_at dksX10_readBed_3 8 rfl rfl)
theorem dX10_readBed_82 : decode cX10_readBed 82 = .ok (.imul, 1) := dk_104 (dk_at dksX10_readBed_3 11 rfl rfl)
theorem dX10_readBed_83 : decode cX10_readBed 83 = .ok (.iadd, 1) := dk_96 (dk_at dksX10_readBed_3 12 rfl rfl)
theorem dX10_readBed_84 : decode cX10_readBed 84 = .ok (.iload_n 1, 1) := dk_27 (dk_at dksX10_readBed_3 13 rfl rfl)
theorem dX10_readBed_85 : decode cX10_readBed 85 = .ok (.iadd, 1) := dk_96 (dk_at dksX10_readBed_3 14 rfl rfl)
theorem dX10_readBed_86 : decode cX10_readBed 86 = .ok (.iaload, 1) := dk_46 (dk_at dksX10_readBed_3 15 rfl rfl)
theorem dX10_readBed_87 : decode cX10_readBed 87 = .ok (.ifCond .eq 9, 3) := dk_153 0 9 (dk_at dksX10_readBed_3 16 rfl rfl)
theorem dX10_readBed_90 : decode cX10_readBed 90 = .ok (.aload_n 0, 1) := dk_42 (dk_at dksX10_readBed_3 19 rfl rfl)
theorem dX10_readBed_91 : decode cX10_readBed 91 = .ok (.iconst 2, 1) := dk_5 (dk_at dksX10_readBed_3 20 rfl rfl)
theorem dX10_readBed_92 : decode cX10_readBed 92 = .ok (.invokevirtual 184, 3) := dk_182 0 184 (dk_at dksX10_readBed_3 21 rfl rfl)
theorem dX10_readBed_95 : decode cX10_readBed 95 = .ok (.ireturn, 1) := dk_172 (dk_at dksX10_readBed_4 0 rfl rfl)
theorem dX10_readBed_96 : decode cX10_readBed 96 = .ok (.aload_n 0, 1) := dk_42 (dk_at dksX10_readBed_4 1 rfl rfl)
theorem dX10_readBed_97 : decode cX10_readBed 97 = .ok (.getfield 16, 3) := dk_180 0 16 (dk_at dksX10_readBed_4 2 rfl rfl)
theorem dX10_readBed_100 : decode cX10_readBed 100 = .ok (.iconst 4, 1) := dk_7 (dk_at dksX10_readBed_4 5 rfl rfl)
theorem dX10_readBed_101 : decode cX10_readBed 101 = .ok (.bipush 10, 2) := dk_16 10 (dk_at dksX10_readBed_4 6 rfl rfl)
theorem dX10_readBed_103 : decode cX10_readBed 103 = .ok (.aload_n 0, 1) := dk_42 (dk_at dksX10_readBed_4 8 rfl rfl)
theorem dX10_readBed_104 : decode cX10_readBed 104 = .ok (.getfield 148, 3) := dk_180 0 148 (dk_at dksX10_readBed_4 9 rfl rfl)
theorem dX10_readBed_107 : decode cX10_readBed 107 = .ok (.imul, 1) := dk_104 (dk_at dksX10_readBed_4 12 rfl rfl)
theorem dX10_readBed_108 : decode cX10_readBed 108 = .ok (.iload_n 1, 1) := dk_27 (dk_at dksX10_readBed_4 13 rfl rfl)
theorem dX10_readBed_109 : decode cX10_readBed 109 = .ok (.iadd, 1) := dk_96 (dk_at dksX10_readBed_4 14 rfl rfl)
theorem dX10_readBed_110 : decode cX10_readBed 110 = .ok (.iastore, 1) := dk_79 (dk_at dksX10_readBed_4 15 rfl rfl)
theorem dX10_readBed_111 : decode cX10_readBed 111 = .ok (.aload_n 0, 1) := dk_42 (dk_at dksX10_readBed_4 16 rfl rfl)
theorem dX10_readBed_112 : decode cX10_readBed 112 = .ok (.invokevirtual 194, 3) := dk_182 0 194 (dk_at dksX10_readBed_4 17 rfl rfl)
theorem dX10_readBed_115 : decode cX10_readBed 115 = .ok (.iconst 1, 1) := dk_4 (dk_at dksX10_readBed_4 20 rfl rfl)
theorem dX10_readBed_116 : decode cX10_readBed 116 = .ok (.ireturn, 1) := dk_172 (dk_at dksX10_readBed_4 21 rfl rfl)
theorem dn_X10_readBed : yX10_readBed.cls ≠ "java/lang/invoke/MethodHandle" ∧ yX10_readBed.cls ≠ "java/lang/invoke/VarHandle" ∧ (parseMethodDescriptor yX10_readBed.desc).map (fun d => d.parameters.length) = some 0 := by decide +kernel
noncomputable def M_X10_readBed  : TM Bool := TM.bind (tA 15 330 4) (fun v1 => if v1 = (-1) then TM.bind (M_X10_go) (fun v2 => TM.bind (tA 15 330 0) (fun v3 => TM.bind (M_X10_readNumber 0 (v3 - 1)) (fun v4 => cond v4 (TM.bind (tI 13) (fun v5 => TM.bind (tI 7) (fun v6 => if v6 = 3 then TM.bind (tI 8) (fun v7 => TM.bind (tA 15 330 1) (fun v8 => if v8 ≤ v7 then TM.bind (M_X10_bad 2) (fun v9 => TM.pure v9) else TM.bind (tI 8) (fun v10 => TM.bind (tA 15 330 ((10 + (10 * v10)) + v5)) (fun v11 => if v11 = 0 then TM.bind (tI 8) (fun v12 => TM.bind (sA 15 330 4 ((10 * v12) + v5)) (fun _ => TM.bind (M_X10_go) (fun v13 => TM.pure true))) else TM.bind (M_X10_bad 2) (fun v14 => TM.pure v14))))) else TM.bind (M_X10_bad 1) (fun v15 => TM.pure v15)))) (TM.pure false)))) else TM.bind (M_X10_bad 3) (fun v16 => TM.pure v16))
set_option maxHeartbeats 4000000 in
theorem ct_X10_readBed (G : gG) (am : Nat)  : gCtM G am yX10_readBed cX10_readBed 2 (some .boolean) 3 67 [.ref am] (M_X10_readBed) (fun x : Bool => some (.int (b2i x))) := by
  refine gCtM.of (by decide) (Nat.le_of_ble_eq_true rfl) (fun K hn ms ms' r hG X hK hd ho => ?_)
  subst hG
  have X : gX K cX10_readBed 2 "BitingDoorsModel" "readBed" (some .boolean) 3 67 := X
  show V K 2 (mkM am hn ms) 0 [(0, .ref am)] []
  unfold M_X10_readBed at hd
  refine v_aload_n X dX10_readBed_0 0 0 rfl rfl ?_
  refine t_getA (j := 2) X rfl fl_X10_16 dX10_readBed_1 ?_
  refine v_iconst (v := 4) X dX10_readBed_4 (by decide) ?_
  refine t_iald (j := 2) X hd rfl dX10_readBed_5 (fun v1 hd => ?_)
  refine v_iconst (v := (-1)) X dX10_readBed_6 (by decide) ?_
  refine v_icmp_eq (tgt := 16) X dX10_readBed_7 (by decide) (fun q => ?_) (fun q => ?_)
  · have hd := Tite_t q hd
    refine v_aload_n X dX10_readBed_16 0 0 rfl rfl ?_
    refine t_callV X hK hd (ct_X10_go _ am) (lw_V q1876 q1878 qs39 q120 q1879) ⟨rfl, dn_X10_go⟩ rfl ⟨by decide, by decide⟩ rfl (Nat.le_of_ble_eq_true rfl) dX10_readBed_17 (fun v2 ms hd => ?_)
    show V K 2 (mkM am hn ms) 20 [(0, .ref am)] []
    refine v_aload_n X dX10_readBed_20 0 0 rfl rfl ?_
    refine v_iconst (v := 0) X dX10_readBed_21 (by decide) ?_
    refine v_aload_n X dX10_readBed_22 0 0 rfl rfl ?_
    refine t_getA (j := 2) X rfl fl_X10_16 dX10_readBed_23 ?_
    refine v_iconst (v := 0) X dX10_readBed_26 (by decide) ?_
    refine t_iald (j := 2) X hd rfl dX10_readBed_27 (fun v3 hd => ?_)
    refine v_iconst (v := 1) X dX10_readBed_28 (by decide) ?_
    refine v_isub X dX10_readBed_29 ?_
    refine t_callV X hK hd (ct_X10_readNumber _ am 0 (v3 - 1)) (lw_V q1936 q1938 qs49 q120 q1939) ⟨rfl, dn_X10_readNumber⟩ rfl ⟨by decide, by decide⟩ rfl (Nat.le_of_ble_eq_true rfl) dX10_readBed_30 (fun v4 ms hd => ?_)
    show V K 2 (mkM am hn ms) 33 [(0, .ref am)] [.int (b2i v4)]
    refine v_ifZ_ne (tgt := 38) X dX10_readBed_33 (by decide) (fun q => ?_) (fun q => ?_)
    · have hd := Tcnd_t q hd
      refine v_aload_n X dX10_readBed_38 0 0 rfl rfl ?_
      refine t_getI X hd rfl fl_X10_191 dX10_readBed_39 (fun v5 hd => ?_)
      refine v_istore_n (lv2 := [(1, .int v5), (0, .ref am)]) X dX10_readBed_42 1 rfl (by decide) rfl ?_
      refine v_aload_n X dX10_readBed_43 1 0 rfl rfl ?_
      refine t_getI X hd rfl fl_X10_131 dX10_readBed_44 (fun v6 hd => ?_)
      refine v_iconst (v := 3) X dX10_readBed_47 (by decide) ?_
      refine v_icmp_eq (tgt := 57) X dX10_readBed_48 (by decide) (fun q => ?_) (fun q => ?_)
      · have hd := Tite_t q hd
        refine v_aload_n X dX10_readBed_57 1 0 rfl rfl ?_
        refine t_getI X hd rfl fl_X10_148 dX10_readBed_58 (fun v7 hd => ?_)
        refine v_aload_n X dX10_readBed_61 1 0 rfl rfl ?_
        refine t_getA (j := 2) X rfl fl_X10_16 dX10_readBed_62 ?_
        refine v_iconst (v := 1) X dX10_readBed_65 (by decide) ?_
        refine t_iald (j := 2) X hd rfl dX10_readBed_66 (fun v8 hd => ?_)
        refine v_icmp_ge (tgt := 90) X dX10_readBed_67 (by decide) (fun q => ?_) (fun q => ?_)
        · have hd := Tite_t q hd
          refine v_aload_n X dX10_readBed_90 1 0 rfl rfl ?_
          refine v_iconst (v := 2) X dX10_readBed_91 (by decide) ?_
          refine t_callV X hK hd (ct_X10_bad _ am 2) (lw_V q1913 q1915 qs44 q120 q1916) ⟨rfl, dn_X10_bad⟩ rfl ⟨by decide, by decide⟩ rfl (Nat.le_of_ble_eq_true rfl) dX10_readBed_92 (fun v9 ms hd => ?_)
          show V K 2 (mkM am hn ms) 95 [(1, .int v5), (0, .ref am)] [.int (b2i v9)]
          exact t_zret X hK hd rfl ho dX10_readBed_95
        · have hd := Tite_f q hd
          refine v_aload_n X dX10_readBed_70 1 0 rfl rfl ?_
          refine t_getA (j := 2) X rfl fl_X10_16 dX10_readBed_71 ?_
          refine v_bipush (v := 10) X dX10_readBed_74 (by decide) ?_
          refine v_bipush (v := 10) X dX10_readBed_76 (by decide) ?_
          refine v_aload_n X dX10_readBed_78 1 0 rfl rfl ?_
          refine t_getI X hd rfl fl_X10_148 dX10_readBed_79 (fun v10 hd => ?_)
          refine v_imul X dX10_readBed_82 ?_
          refine v_iadd X dX10_readBed_83 ?_
          refine v_iload_n X dX10_readBed_84 0 1 rfl rfl ?_
          refine v_iadd X dX10_readBed_85 ?_
          refine t_iald (j := 2) X hd rfl dX10_readBed_86 (fun v11 hd => ?_)
          refine v_if_eq (tgt := 96) X dX10_readBed_87 (by decide) (fun q => ?_) (fun q => ?_)
          · have hd := Tite_t q hd
            refine v_aload_n X dX10_readBed_96 1 0 rfl rfl ?_
            refine t_getA (j := 2) X rfl fl_X10_16 dX10_readBed_97 ?_
            refine v_iconst (v := 4) X dX10_readBed_100 (by decide) ?_
            refine v_bipush (v := 10) X dX10_readBed_101 (by decide) ?_
            refine v_aload_n X dX10_readBed_103 1 0 rfl rfl ?_
            refine t_getI X hd rfl fl_X10_148 dX10_readBed_104 (fun v12 hd => ?_)
            refine v_imul X dX10_readBed_107 ?_
            refine v_iload_n X dX10_readBed_108 0 1 rfl rfl ?_
            refine v_iadd X dX10_readBed_109 ?_
            refine t_iast (j := 2) X hd rfl dX10_readBed_110 (fun ms hd => ?_)
            refine v_aload_n X dX10_readBed_111 1 0 rfl rfl ?_
            refine t_callV X hK hd (ct_X10_go _ am) (lw_V q1876 q1878 qs39 q120 q1879) ⟨rfl, dn_X10_go⟩ rfl ⟨by decide, by decide⟩ rfl (Nat.le_of_ble_eq_true rfl) dX10_readBed_112 (fun v13 ms hd => ?_)
            show V K 2 (mkM am hn ms) 115 [(1, .int v5), (0, .ref am)] []
            refine v_iconst (v := 1) X dX10_readBed_115 (by decide) ?_
            exact t_zret X hK hd rfl ho dX10_readBed_116
          · have hd := Tite_f q hd
            refine v_aload_n X dX10_readBed_90 1 0 rfl rfl ?_
            refine v_iconst (v := 2) X dX10_readBed_91 (by decide) ?_
            refine t_callV X hK hd (ct_X10_bad _ am 2) (lw_V q1913 q1915 qs44 q120 q1916) ⟨rfl, dn_X10_bad⟩ rfl ⟨by decide, by decide⟩ rfl (Nat.le_of_ble_eq_true rfl) dX10_readBed_92 (fun v14 ms hd => ?_)
            show V K 2 (mkM am hn ms) 95 [(1, .int v5), (0, .ref am)] [.int (b2i v14)]
            exact t_zret X hK hd rfl ho dX10_readBed_95
      · have hd := Tite_f q hd
        refine v_aload_n X dX10_readBed_51 1 0 rfl rfl ?_
        refine v_iconst (v := 1) X dX10_readBed_52 (by decide) ?_
        refine t_callV X hK hd (ct_X10_bad _ am 1) (lw_V q1913 q1915 qs44 q120 q1916) ⟨rfl, dn_X10_bad⟩ rfl ⟨by decide, by decide⟩ rfl (Nat.le_of_ble_eq_true rfl) dX10_readBed_53 (fun v15 ms hd => ?_)
        show V K 2 (mkM am hn ms) 56 [(1, .int v5), (0, .ref am)] [.int (b2i v15)]
        exact t_zret X hK hd rfl ho dX10_readBed_56
    · have hd := Tcnd_f q hd
      refine v_iconst (v := 0) X dX10_readBed_36 (by decide) ?_
      exact t_zret X hK hd rfl ho dX10_readBed_37
  · have hd := Tite_f q hd
    refine v_aload_n X dX10_readBed_10 0 0 rfl rfl ?_
    refine v_iconst (v := 3) X dX10_readBed_11 (by decide) ?_
    refine t_callV X hK hd (ct_X10_bad _ am 3) (lw_V q1913 q1915 qs44 q120 q1916) ⟨rfl, dn_X10_bad⟩ rfl ⟨by decide, by decide⟩ rfl (Nat.le_of_ble_eq_true rfl) dX10_readBed_12 (fun v16 ms hd => ?_)
    show V K 2 (mkM am hn ms) 15 [(0, .ref am)] [.int (b2i v16)]
    exact t_zret X hK hd rfl ho dX10_readBed_15
def dkwX10_readLine_3 : List UInt8 := [153, 0, 14, 42, 182, 0, 246, 153, 0, 7, 4, 167, 0, 4, 3, 172]
abbrev dktX10_readLine_3 : List UInt8 := dkwX10_readLine_3 ++ []
def dkwX10_readLine_2 : List UInt8 := [42, 6, 182, 0, 224, 153, 0, 10, 42, 182, 0, 243, 167, 0, 8, 42, 4, 182, 0, 184, 60, 27]
abbrev dktX10_readLine_2 : List UInt8 := dkwX10_readLine_2 ++ dktX10_readLine_3
def dkwX10_readLine_1 : List UInt8 := [42, 182, 0, 237, 60, 167, 0, 40, 42, 5, 182, 0, 224, 153, 0, 11, 42, 182, 0, 240, 60, 167, 0, 24]
abbrev dktX10_readLine_1 : List UInt8 := dkwX10_readLine_1 ++ dktX10_readLine_2
def dkwX10_readLine_0 : List UInt8 := [42, 3, 182, 0, 224, 153, 0, 11, 42, 182, 0, 234, 60, 167, 0, 56, 42, 4, 182, 0, 224, 153, 0, 11]
abbrev dktX10_readLine_0 : List UInt8 := dkwX10_readLine_0 ++ dktX10_readLine_1
theorem dksX10_readLine_0 : cX10_readLine.data.toList.drop 0 = dktX10_readLine_0 := by decide +kernel
theorem dksX10_readLine_1 : cX10_readLine.data.toList.drop 24 = dktX10_readLine_1 := dk_seg dksX10_readLine_0 24 rfl rfl
theorem dksX10_readLine_2 : cX10_readLine.data.toList.drop 48 = dktX10_readLine_2 := dk_seg dksX10_readLine_1 24 rfl rfl
theorem dksX10_readLine_3 : cX10_readLine.data.toList.drop 70 = dktX10_readLine_3 := dk_seg dksX10_readLine_2 22 rfl rfl
theorem dX10_readLine_0 : decode cX10_readLine 0 = .ok (.aload_n 0, 1) := dk_42 (dk_at dksX10_readLine_0 0 rfl rfl)
theorem dX10_readLine_1 : decode cX10_readLine 1 = .ok (.iconst 0, 1) := dk_3 (dk_at dksX10_readLine_0 1 rfl rfl)
theorem dX10_readLine_2 : decode cX10_readLine 2 = .ok (.invokevirtual 224, 3) := dk_182 0 224 (dk_at dksX10_readLine_0 2 rfl rfl)
theorem dX10_readLine_5 : decode cX10_readLine 5 = .ok (.ifCond .eq 11, 3) := dk_153 0 11 (dk_at dksX10_readLine_0 5 rfl rfl)
theorem dX10_readLine_8 : decode cX10_readLine 8 = .ok (.aload_n 0, 1) := dk_42 (dk_at dksX10_readLine_0 8 rfl rfl)
theorem dX10_readLine_9 : decode cX10_readLine 9 = .ok (.invokevirtual 234, 3) := dk_182 0 234 (dk_at dksX10_readLine_0 9 rfl rfl)
theorem dX10_readLine_12 : decode cX10_readLine 12 = .ok (.istore_n 1, 1) := dk_60 (dk_at dksX10_readLine_0 12 rfl rfl)
theorem dX10_readLine_13 : decode cX10_readLine 13 = .ok (.goto 56, 3) := dk_167 0 56 (dk_at dksX10_readLine_0 13 rfl rfl)
theorem dX10_readLine_16 : decode cX10_readLine 16 = .ok (.aload_n 0, 1) := dk_42 (dk_at dksX10_readLine_0 16 rfl rfl)
theorem dX10_readLine_17 : decode cX10_readLine 17 = .ok (.iconst 1, 1) := dk_4 (dk_at dksX10_readLine_0 17 rfl rfl)
theorem dX10_readLine_18 : decode cX10_readLine 18 = .ok (.invokevirtual 224, 3) := dk_182 0 224 (dk_at dksX10_readLine_0 18 rfl rfl)
theorem dX10_readLine_21 : decode cX10_readLine 21 = .ok (.ifCond .eq 11, 3) := dk_153 0 11 (dk_at dksX10_readLine_0 21 rfl rfl)
theorem dX10_readLine_24 : decode cX10_readLine 24 = .ok (.aload_n 0, 1) := dk_42 (dk_at dksX10_readLine_1 0 rfl rfl)
theorem dX10_readLine_25 : decode cX10_readLine 25 = .ok (.invokevirtual 237, 3) := dk_182 0 237 (dk_at dksX10_readLine_1 1 rfl rfl)
theorem dX10_readLine_28 : decode cX10_readLine 28 = .ok (.istore_n 1, 1) := dk_60 (dk_at dksX10_readLine_1 4 rfl rfl)
theorem dX10_readLine_29 : decode cX10_readLine 29 = .ok (.goto 40, 3) := dk_167 0 40 (dk_at dksX10_readLine_1 5 rfl rfl)
theorem dX10_readLine_32 : decode cX10_readLine 32 = .ok (.aload_n 0, 1) := dk_42 (dk_at dksX10_readLine_1 8 rfl rfl)
theorem dX10_readLine_33 : decode cX10_readLine 33 = .ok (.iconst 2, 1) := dk_5 (dk_at dksX10_readLine_1 9 rfl rfl)
theorem dX10_readLine_34 : decode cX10_readLine 34 = .ok (.invokevirtual 224, 3) := dk_182 0 224 (dk_at dksX10_readLine_1 10 rfl rfl)
theorem dX10_readLine_37 : decode cX10_readLine 37 = .ok (.ifCond .eq 11, 3) := dk_153 0 11 (dk_at dksX10_readLine_1 13 rfl rfl)
theorem dX10_readLine_40 : decode cX10_readLine 40 = .ok (.aload_n 0, 1) := dk_42 (dk_at dksX10_readLine_1 16 rfl rfl)
theorem dX10_readLine_41 : decode cX10_readLine 41 = .ok (.invokevirtual 240, 3) := dk_182 0 240 (dk_at dksX10_readLine_1 17 rfl rfl)
theorem dX10_readLine_44 : decode cX10_readLine 44 = .ok (.istore_n 1, 1) := dk_60 (dk_at dksX10_readLine_1 20 rfl rfl)
theorem dX10_readLine_45 : decode cX10_readLine 45 = .ok (.goto 24, 3) := dk_167 0 24 (dk_at dksX10_readLine_1 21 rfl rfl)
theorem dX10_readLine_48 : decode cX10_readLine 48 = .ok (.aload_n 0, 1) := dk_42 (dk_at dksX10_readLine_2 0 rfl rfl)
theorem dX10_readLine_49 : decode cX10_readLine 49 = .ok (.iconst 3, 1) := dk_6 (dk_at dksX10_readLine_2 1 rfl rfl)
theorem dX10_readLine_50 : decode cX10_readLine 50 = .ok (.invokevirtual 224, 3) := dk_182 0 224 (dk_at dksX10_readLine_2 2 rfl rfl)
theorem dX10_readLine_53 : decode cX10_readLine 53 = .ok (.ifCond .eq 10, 3) := dk_153 0 10 (dk_at dksX10_readLine_2 5 rfl rfl)
theorem dX10_readLine_56 : decode cX10_readLine 56 = .ok (.aload_n 0, 1) := dk_42 (dk_at dksX10_readLine_2 8 rfl rfl)
theorem dX10_readLine_57 : decode cX10_readLine 57 = .ok (.invokevirtual 243, 3) := dk_182 0 243 (dk_at dksX10_readLine_2 9 rfl rfl)
theorem dX10_readLine_60 : decode cX10_readLine 60 = .ok (.goto 8, 3) := dk_167 0 8 (dk_at dksX10_readLine_2 12 rfl rfl)
theorem dX10_readLine_63 : decode cX10_readLine 63 = .ok (.aload_n 0, 1) := dk_42 (dk_at dksX10_readLine_2 15 rfl rfl)
theorem dX10_readLine_64 : decode cX10_readLine 64 = .ok (.iconst 1, 1) := dk_4 (dk_at dksX10_readLine_2 16 rfl rfl)
theorem dX10_readLine_65 : decode cX10_readLine 65 = .ok (.invokevirtual 184, 3) := dk_182 0 184 (dk_at dksX10_readLine_2 17 rfl rfl)
theorem dX10_readLine_68 : decode cX10_readLine 68 = .ok (.istore_n 1, 1) := dk_60 (dk_at dksX10_readLine_2 20 rfl rfl)
theorem dX10_readLine_69 : decode cX10_readLine 69 = .ok (.iload_n 1, 1) := dk_27 (dk_at dksX10_readLine_2 21 rfl rfl)
theorem dX10_readLine_70 : decode cX10_readLine 70 = .ok (.ifCond .eq 14, 3) := dk_153 0 14 (dk_at dksX10_readLine_3 0 rfl rfl)
theorem dX10_readLine_73 : decode cX10_readLine 73 = .ok (.aload_n 0, 1) := dk_42 (dk_at dksX10_readLine_3 3 rfl rfl)
theorem dX10_readLine_74 : decode cX10_readLine 74 = .ok (.invokevirtual 246, 3) := dk_182 0 246 (dk_at dksX10_readLine_3 4 rfl rfl)
theorem dX10_readLine_77 : decode cX10_readLine 77 = .ok (.ifCond .eq 7, 3) := dk_153 0 7 (dk_at dksX10_readLine_3 7 rfl rfl)
theorem dX10_readLine_80 : decode cX10_readLine 80 = .ok (.iconst 1, 1) := dk_4 (dk_at dksX10_readLine_3 10 rfl rfl)
theorem dX10_readLine_81 : decode cX10_readLine 81 = .ok (.goto 4, 3) := dk_167 0 4 (dk_at dksX10_readLine_3 11 rfl rfl)
theorem dX10_readLine_84 : decode cX10_readLine 84 = .ok (.iconst 0, 1) := dk_3 (dk_at dksX10_readLine_3 14 rfl rfl)
theorem dX10_readLine_85 : decode cX10_readLine 85 = .ok (.ireturn, 1) := dk_172 (dk_at dksX10_readLine_3 15 rfl rfl)
theorem dn_X10_readLine : yX10_readLine.cls ≠ "java/lang/invoke/MethodHandle" ∧ yX10_readLine.cls ≠ "java/lang/invoke/VarHandle" ∧ (parseMethodDescriptor yX10_readLine.desc).map (fun d => d.parameters.length) = some 0 := by decide +kernel
noncomputable def M_X10_readLine  : TM Bool := TM.bind (M_X10_isWord 0) (fun v1 => TM.bind ((cond v1 (TM.bind (M_X10_readRow) (fun v13 => TM.pure v13)) (TM.bind (M_X10_isWord 1) (fun v5 => cond v5 (TM.bind (M_X10_readDoor) (fun v12 => TM.pure v12)) (TM.bind (M_X10_isWord 2) (fun v6 => cond v6 (TM.bind (M_X10_readDraught) (fun v11 => TM.pure v11)) (TM.bind (M_X10_isWord 3) (fun v7 => TM.bind ((cond v7 (TM.bind (M_X10_readBed) (fun v10 => TM.pure v10)) (TM.bind (M_X10_bad 1) (fun v9 => TM.pure v9)) : TM (Bool))) (fun u8 => TM.pure u8))))))) : TM (Bool))) (fun u2 => TM.bind ((cond u2 (TM.bind (M_X10_readEnd) (fun v4 => cond v4 (TM.pure true) (TM.pure false))) (TM.pure false) : TM (Bool))) (fun u3 => TM.pure u3)))
set_option maxHeartbeats 4000000 in
theorem ct_X10_readLine (G : gG) (am : Nat)  : gCtM G am yX10_readLine cX10_readLine 2 (some .boolean) 4 93 [.ref am] (M_X10_readLine) (fun x : Bool => some (.int (b2i x))) := by
  refine gCtM.of (by decide) (Nat.le_of_ble_eq_true rfl) (fun K hn ms ms' r hG X hK hd ho => ?_)
  subst hG
  have X : gX K cX10_readLine 2 "BitingDoorsModel" "readLine" (some .boolean) 4 93 := X
  show V K 2 (mkM am hn ms) 0 [(0, .ref am)] []
  unfold M_X10_readLine at hd
  refine v_aload_n X dX10_readLine_0 0 0 rfl rfl ?_
  refine v_iconst (v := 0) X dX10_readLine_1 (by decide) ?_
  refine t_callV X hK hd (ct_X10_isWord _ am 0) (lw_V q1896 q1898 qs42 q120 q1899) ⟨rfl, dn_X10_isWord⟩ rfl ⟨by decide, by decide⟩ rfl (Nat.le_of_ble_eq_true rfl) dX10_readLine_2 (fun v1 ms hd => ?_)
  show V K 2 (mkM am hn ms) 5 [(0, .ref am)] [.int (b2i v1)]
  obtain ⟨u2, m1, hd, hd2⟩ := TM.bind_some hd
  have KJ : V K 2 (mkM am hn m1) 69 [(0, .ref am), (1, .int (b2i u2))] [] := by
    clear hd
    have hd := hd2
    refine v_iload_n X dX10_readLine_69 1 1 rfl rfl ?_
    obtain ⟨u3, m1, hd, hd2⟩ := TM.bind_some hd
    have KJ : V K 2 (mkM am hn m1) 85 [] [.int (b2i u3)] := by
      clear hd
      have hd := hd2
      exact t_zret X hK hd rfl ho dX10_readLine_85
    clear hd2
    refine v_ifZ_eq (tgt := 84) X dX10_readLine_70 (by decide) (fun q => ?_) (fun q => ?_)
    · have hd := Tcnd_f q hd
      refine v_iconst (v := 0) X dX10_readLine_84 (by decide) ?_
      exact v_loc [] rfl (t_at (P := fun (u3 : Bool) m => V K 2 (mkM am hn m) 85 [] [.int (b2i u3)]) hd KJ)
    · have hd := Tcnd_t q hd
      refine v_aload_n X dX10_readLine_73 0 0 rfl rfl ?_
      refine t_callV X hK hd (ct_X10_readEnd _ am) (lw_V q1958 q1960 qs53 q120 q1961) ⟨rfl, dn_X10_readEnd⟩ rfl ⟨by decide, by decide⟩ rfl (Nat.le_of_ble_eq_true rfl) dX10_readLine_74 (fun v4 ms hd => ?_)
      show V K 2 (mkM am hn ms) 77 [(0, .ref am), (1, .int (b2i u2))] [.int (b2i v4)]
      refine v_ifZ_eq (tgt := 84) X dX10_readLine_77 (by decide) (fun q => ?_) (fun q => ?_)
      · have hd := Tcnd_f q hd
        refine v_iconst (v := 0) X dX10_readLine_84 (by decide) ?_
        exact v_loc [] rfl (t_at (P := fun (u3 : Bool) m => V K 2 (mkM am hn m) 85 [] [.int (b2i u3)]) hd KJ)
      · have hd := Tcnd_t q hd
        refine v_iconst (v := 1) X dX10_readLine_80 (by decide) ?_
        refine v_goto (tgt := 85) X dX10_readLine_81 (by decide) ?_
        exact v_loc [] rfl (t_at (P := fun (u3 : Bool) m => V K 2 (mkM am hn m) 85 [] [.int (b2i u3)]) hd KJ)
  clear hd2
  refine v_ifZ_eq (tgt := 16) X dX10_readLine_5 (by decide) (fun q => ?_) (fun q => ?_)
  · have hd := Tcnd_f q hd
    refine v_aload_n X dX10_readLine_16 0 0 rfl rfl ?_
    refine v_iconst (v := 1) X dX10_readLine_17 (by decide) ?_
    refine t_callV X hK hd (ct_X10_isWord _ am 1) (lw_V q1896 q1898 qs42 q120 q1899) ⟨rfl, dn_X10_isWord⟩ rfl ⟨by decide, by decide⟩ rfl (Nat.le_of_ble_eq_true rfl) dX10_readLine_18 (fun v5 ms hd => ?_)
    show V K 2 (mkM am hn ms) 21 [(0, .ref am)] [.int (b2i v5)]
    refine v_ifZ_eq (tgt := 32) X dX10_readLine_21 (by decide) (fun q => ?_) (fun q => ?_)
    · have hd := Tcnd_f q hd
      refine v_aload_n X dX10_readLine_32 0 0 rfl rfl ?_
      refine v_iconst (v := 2) X dX10_readLine_33 (by decide) ?_
      refine t_callV X hK hd (ct_X10_isWord _ am 2) (lw_V q1896 q1898 qs42 q120 q1899) ⟨rfl, dn_X10_isWord⟩ rfl ⟨by decide, by decide⟩ rfl (Nat.le_of_ble_eq_true rfl) dX10_readLine_34 (fun v6 ms hd => ?_)
      show V K 2 (mkM am hn ms) 37 [(0, .ref am)] [.int (b2i v6)]
      refine v_ifZ_eq (tgt := 48) X dX10_readLine_37 (by decide) (fun q => ?_) (fun q => ?_)
      · have hd := Tcnd_f q hd
        refine v_aload_n X dX10_readLine_48 0 0 rfl rfl ?_
        refine v_iconst (v := 3) X dX10_readLine_49 (by decide) ?_
        refine t_callV X hK hd (ct_X10_isWord _ am 3) (lw_V q1896 q1898 qs42 q120 q1899) ⟨rfl, dn_X10_isWord⟩ rfl ⟨by decide, by decide⟩ rfl (Nat.le_of_ble_eq_true rfl) dX10_readLine_50 (fun v7 ms hd => ?_)
        show V K 2 (mkM am hn ms) 53 [(0, .ref am)] [.int (b2i v7)]
        obtain ⟨u8, m1, hd, hd2⟩ := TM.bind_some hd
        have KJ : V K 2 (mkM am hn m1) 68 [(0, .ref am)] [.int (b2i u8)] := by
          clear hd
          have hd := hd2
          refine v_istore_n (lv2 := [(1, .int (b2i u8)), (0, .ref am)]) X dX10_readLine_68 1 rfl (by decide) rfl ?_
          exact v_loc [1, 0] rfl (t_at (P := fun (u2 : Bool) m => V K 2 (mkM am hn m) 69 [(0, .ref am), (1, .int (b2i u2))] []) hd KJ)
        clear hd2
        refine v_ifZ_eq (tgt := 63) X dX10_readLine_53 (by decide) (fun q => ?_) (fun q => ?_)
        · have hd := Tcnd_f q hd
          refine v_aload_n X dX10_readLine_63 0 0 rfl rfl ?_
          refine v_iconst (v := 1) X dX10_readLine_64 (by decide) ?_
          refine t_callV X hK hd (ct_X10_bad _ am 1) (lw_V q1913 q1915 qs44 q120 q1916) ⟨rfl, dn_X10_bad⟩ rfl ⟨by decide, by decide⟩ rfl (Nat.le_of_ble_eq_true rfl) dX10_readLine_65 (fun v9 ms hd => ?_)
          show V K 2 (mkM am hn ms) 68 [(0, .ref am)] [.int (b2i v9)]
          exact v_loc [0] rfl (t_at (P := fun (u8 : Bool) m => V K 2 (mkM am hn m) 68 [(0, .ref am)] [.int (b2i u8)]) hd KJ)
        · have hd := Tcnd_t q hd
          refine v_aload_n X dX10_readLine_56 0 0 rfl rfl ?_
          refine t_callV X hK hd (ct_X10_readBed _ am) (lw_V q1954 q1956 qs52 q120 q1957) ⟨rfl, dn_X10_readBed⟩ rfl ⟨by decide, by decide⟩ rfl (Nat.le_of_ble_eq_true rfl) dX10_readLine_57 (fun v10 ms hd => ?_)
          show V K 2 (mkM am hn ms) 60 [(0, .ref am)] [.int (b2i v10)]
          refine v_goto (tgt := 68) X dX10_readLine_60 (by decide) ?_
          exact v_loc [0] rfl (t_at (P := fun (u8 : Bool) m => V K 2 (mkM am hn m) 68 [(0, .ref am)] [.int (b2i u8)]) hd KJ)
      · have hd := Tcnd_t q hd
        refine v_aload_n X dX10_readLine_40 0 0 rfl rfl ?_
        refine t_callV X hK hd (ct_X10_readDraught _ am) (lw_V q1950 q1952 qs51 q120 q1953) ⟨rfl, dn_X10_readDraught⟩ rfl ⟨by decide, by decide⟩ rfl (Nat.le_of_ble_eq_true rfl) dX10_readLine_41 (fun v11 ms hd => ?_)
        show V K 2 (mkM am hn ms) 44 [(0, .ref am)] [.int (b2i v11)]
        refine v_istore_n (lv2 := [(1, .int (b2i v11)), (0, .ref am)]) X dX10_readLine_44 1 rfl (by decide) rfl ?_
        refine v_goto (tgt := 69) X dX10_readLine_45 (by decide) ?_
        exact v_loc [1, 0] rfl (t_at (P := fun (u2 : Bool) m => V K 2 (mkM am hn m) 69 [(0, .ref am), (1, .int (b2i u2))] []) hd KJ)
    · have hd := Tcnd_t q hd
      refine v_aload_n X dX10_readLine_24 0 0 rfl rfl ?_
      refine t_callV X hK hd (ct_X10_readDoor _ am) (lw_V q1924 q1926 qs46 q120 q1927) ⟨rfl, dn_X10_readDoor⟩ rfl ⟨by decide, by decide⟩ rfl (Nat.le_of_ble_eq_true rfl) dX10_readLine_25 (fun v12 ms hd => ?_)
      show V K 2 (mkM am hn ms) 28 [(0, .ref am)] [.int (b2i v12)]
      refine v_istore_n (lv2 := [(1, .int (b2i v12)), (0, .ref am)]) X dX10_readLine_28 1 rfl (by decide) rfl ?_
      refine v_goto (tgt := 69) X dX10_readLine_29 (by decide) ?_
      exact v_loc [1, 0] rfl (t_at (P := fun (u2 : Bool) m => V K 2 (mkM am hn m) 69 [(0, .ref am), (1, .int (b2i u2))] []) hd KJ)
  · have hd := Tcnd_t q hd
    refine v_aload_n X dX10_readLine_8 0 0 rfl rfl ?_
    refine t_callV X hK hd (ct_X10_readRow _ am) (lw_V q1909 q1911 qs43 q120 q1912) ⟨rfl, dn_X10_readRow⟩ rfl ⟨by decide, by decide⟩ rfl (Nat.le_of_ble_eq_true rfl) dX10_readLine_9 (fun v13 ms hd => ?_)
    show V K 2 (mkM am hn ms) 12 [(0, .ref am)] [.int (b2i v13)]
    refine v_istore_n (lv2 := [(1, .int (b2i v13)), (0, .ref am)]) X dX10_readLine_12 1 rfl (by decide) rfl ?_
    refine v_goto (tgt := 69) X dX10_readLine_13 (by decide) ?_
    exact v_loc [1, 0] rfl (t_at (P := fun (u2 : Bool) m => V K 2 (mkM am hn m) 69 [(0, .ref am), (1, .int (b2i u2))] []) hd KJ)
def dkwX10_come_1 : List UInt8 := [89, 180, 0, 112, 4, 96, 181, 0, 112, 132, 2, 248, 167, 255, 223, 177]
abbrev dktX10_come_1 : List UInt8 := dkwX10_come_1 ++ []
def dkwX10_come_0 : List UInt8 := [16, 24, 61, 28, 155, 0, 35, 42, 180, 0, 7, 42, 180, 0, 112, 27, 28, 124, 17, 0, 255, 126, 79, 42]
abbrev dktX10_come_0 : List UInt8 := dkwX10_come_0 ++ dktX10_come_1
theorem dksX10_come_0 : cX10_come.data.toList.drop 0 = dktX10_come_0 := by decide +kernel
theorem dksX10_come_1 : cX10_come.data.toList.drop 24 = dktX10_come_1 := dk_seg dksX10_come_0 24 rfl rfl
theorem dX10_come_0 : decode cX10_come 0 = .ok (.bipush 24, 2) := dk_16 24 (dk_at dksX10_come_0 0 rfl rfl)
theorem dX10_come_2 : decode cX10_come 2 = .ok (.istore_n 2, 1) := dk_61 (dk_at dksX10_come_0 2 rfl rfl)
theorem dX10_come_3 : decode cX10_come 3 = .ok (.iload_n 2, 1) := dk_28 (dk_at dksX10_come_0 3 rfl rfl)
theorem dX10_come_4 : decode cX10_come 4 = .ok (.ifCond .lt 35, 3) := dk_155 0 35 (dk_at dksX10_come_0 4 rfl rfl)
theorem dX10_come_7 : decode cX10_come 7 = .ok (.aload_n 0, 1) := dk_42 (dk_at dksX10_come_0 7 rfl rfl)
theorem dX10_come_8 : decode cX10_come 8 = .ok (.getfield 7, 3) := dk_180 0 7 (dk_at dksX10_come_0 8 rfl rfl)
theorem dX10_come_11 : decode cX10_come 11 = .ok (.aload_n 0, 1) := dk_42 (dk_at dksX10_come_0 11 rfl rfl)
theorem dX10_come_12 : decode cX10_come 12 = .ok (.getfield 112, 3) := dk_180 0 112 (dk_at dksX10_come_0 12 rfl rfl)
theorem dX10_come_15 : decode cX10_come 15 = .ok (.iload_n 1, 1) := dk_27 (dk_at dksX10_come_0 15 rfl rfl)
theorem dX10_come_16 : decode cX10_come 16 = .ok (.iload_n 2, 1) := dk_28 (dk_at dksX10_come_0 16 rfl rfl)
theorem dX10_come_17 : decode cX10_come 17 = .ok (.iushr, 1) := dk_124 (dk_at dksX10_come_0 17 rfl rfl)
theorem dX10_come_18 : decode cX10_come 18 = .ok (.sipush 255, 3) := dk_17 0 255 (dk_at dksX10_come_0 18 rfl rfl)
theorem dX10_come_21 : decode cX10_come 21 = .ok (.iand, 1) := dk_126 (dk_at dksX10_come_0 21 rfl rfl)
theorem dX10_come_22 : decode cX10_come 22 = .ok (.iastore, 1) := dk_79 (dk_at dksX10_come_0 22 rfl rfl)
theorem dX10_come_23 : decode cX10_come 23 = .ok (.aload_n 0, 1) := dk_42 (dk_at dksX10_come_0 23 rfl rfl)
theorem dX10_come_24 : decode cX10_come 24 = .ok (.dup, 1) := dk_89 (dk_at dksX10_come_1 0 rfl rfl)
theorem dX10_come_25 : decode cX10_come 25 = .ok (.getfield 112, 3) := dk_180 0 112 (dk_at dksX10_come_1 1 rfl rfl)
theorem dX10_come_28 : decode cX10_come 28 = .ok (.iconst 1, 1) := dk_4 (dk_at dksX10_come_1 4 rfl rfl)
theorem dX10_come_29 : decode cX10_come 29 = .ok (.iadd, 1) := dk_96 (dk_at dksX10_come_1 5 rfl rfl)
theorem dX10_come_30 : decode cX10_come 30 = .ok (.putfield 112, 3) := dk_181 0 112 (dk_at dksX10_come_1 6 rfl rfl)
theorem dX10_come_33 : decode cX10_come 33 = .ok (.iinc 2 (-8), 3) := dk_132 2 248 (dk_at dksX10_come_1 9 rfl rfl)
theorem dX10_come_36 : decode cX10_come 36 = .ok (.goto (-33), 3) := dk_167 255 223 (dk_at dksX10_come_1 12 rfl rfl)
theorem dX10_come_39 : decode cX10_come 39 = .ok (.return_, 1) := dk_177 (dk_at dksX10_come_1 15 rfl rfl)
theorem dn_X10_come : yX10_come.cls ≠ "java/lang/invoke/MethodHandle" ∧ yX10_come.cls ≠ "java/lang/invoke/VarHandle" ∧ (parseMethodDescriptor yX10_come.desc).map (fun d => d.parameters.length) = some 1 := by decide +kernel
noncomputable def M_X10_come (p1 : Int32) : TM Unit := TM.bind (TM.loop (S := Int32) (E := Unit) (fun s1 => if s1 < 0 then TM.pure (Sum.inr ()) else TM.bind (tI 2) (fun v5 => TM.bind (sA 1 940 v5 (((p1.toUInt32 >>> (s1.toUInt32 &&& Int32.toUInt32 31)).toInt32) &&& 255)) (fun _ => TM.bind (tI 2) (fun v6 => TM.bind (sI 2 (v6 + 1)) (fun _ => TM.lv (s1 + (-8)) (fun v7 => TM.pure (Sum.inl v7))))))) 24) (fun e4 => TM.pure ())
set_option maxHeartbeats 4000000 in
theorem ct_X10_come (G : gG) (am : Nat) (p1 : Int32) : gCtM G am yX10_come cX10_come 3 none 0 0 [.ref am, .int p1] (M_X10_come p1) (fun _ : Unit => none) := by
  refine gCtM.of (by decide) (Nat.le_of_ble_eq_true rfl) (fun K hn ms ms' r hG X hK hd ho => ?_)
  subst hG
  have X : gX K cX10_come 3 "BitingDoorsModel" "come" none 0 0 := X
  show V K 3 (mkM am hn ms) 0 [(0, .ref am), (1, .int p1)] []
  unfold M_X10_come at hd
  refine v_bipush (v := 24) X dX10_come_0 (by decide) ?_
  refine v_istore_n (lv2 := [(2, .int 24), (0, .ref am), (1, .int p1)]) X dX10_come_2 2 rfl (by decide) rfl ?_
  obtain ⟨e4, m1, hd, hd2⟩ := TM.bind_some hd
  have KX : V K 3 (mkM am hn m1) 39 [] [] := by
    clear hd
    have hd := hd2
    exact t_vret X hK hd ho dX10_come_39
  clear hd2
  refine v_loc [1, 2, 0] rfl ?_
  refine Tloop_ind hd (fun (s1 : Int32) m => V K 3 (mkM am hn m) 3 [(0, .ref am), (1, .int p1), (2, .int s1)] []) (fun s1 ms x m2 hd ih2 ho3 => ?_)
  refine v_iload_n X dX10_come_3 2 2 rfl rfl ?_
  refine v_if_lt (tgt := 39) X dX10_come_4 (by decide) (fun q => ?_) (fun q => ?_)
  · have hd := Tite_t q hd
    exact v_loc [] rfl (t_at (P := fun (e4 : Unit) m => V K 3 (mkM am hn m) 39 [] []) (Tlp_out hd ho3) KX)
  · have hd := Tite_f q hd
    refine v_aload_n X dX10_come_7 0 0 rfl rfl ?_
    refine t_getA (j := 0) X rfl fl_X10_7 dX10_come_8 ?_
    refine v_aload_n X dX10_come_11 0 0 rfl rfl ?_
    refine t_getI X hd rfl fl_X10_112 dX10_come_12 (fun v5 hd => ?_)
    refine v_iload_n X dX10_come_15 1 1 rfl rfl ?_
    refine v_iload_n X dX10_come_16 2 2 rfl rfl ?_
    refine v_iushr X dX10_come_17 ?_
    refine v_sipush (v := 255) X dX10_come_18 (by decide) ?_
    refine v_iand X dX10_come_21 ?_
    refine t_iast (j := 0) X hd rfl dX10_come_22 (fun ms hd => ?_)
    refine v_aload_n X dX10_come_23 0 0 rfl rfl ?_
    refine v_dup X dX10_come_24 rfl ?_
    refine t_getI X hd rfl fl_X10_112 dX10_come_25 (fun v6 hd => ?_)
    refine v_iconst (v := 1) X dX10_come_28 (by decide) ?_
    refine v_iadd X dX10_come_29 ?_
    refine t_putI X hd rfl fp_X10_112 dX10_come_30 (fun ms hd => ?_)
    refine t_iincL (lv2 := fun v7 => [(2, .int v7), (0, .ref am), (1, .int p1)]) X hd dX10_come_33 2 rfl (by decide : Int32.ofInt (-8) = (-8)) (by decide) (fun v7 => rfl) (fun v7 hd => ?_)
    refine v_goto (tgt := 3) X dX10_come_36 (by decide) ?_
    exact v_loc [1, 2, 0] rfl (Tlp_in (P := fun (s1 : Int32) m => V K 3 (mkM am hn m) 3 [(0, .ref am), (1, .int p1), (2, .int s1)] []) hd ih2)
def dkwX10_feed_2 : List UInt8 := [182, 0, 115, 42, 180, 0, 112, 172]
abbrev dktX10_feed_2 : List UInt8 := dkwX10_feed_2 ++ []
def dkwX10_feed_1 : List UInt8 := [182, 0, 115, 42, 28, 182, 0, 115, 42, 29, 182, 0, 115, 42, 21, 4, 182, 0, 115, 42, 21, 5]
abbrev dktX10_feed_1 : List UInt8 := dkwX10_feed_1 ++ dktX10_feed_2
def dkwX10_feed_0 : List UInt8 := [42, 3, 181, 0, 108, 42, 180, 0, 112, 16, 20, 96, 17, 3, 172, 164, 0, 5, 2, 172, 42, 27]
abbrev dktX10_feed_0 : List UInt8 := dkwX10_feed_0 ++ dktX10_feed_1
theorem dksX10_feed_0 : cX10_feed.data.toList.drop 0 = dktX10_feed_0 := by decide +kernel
theorem dksX10_feed_1 : cX10_feed.data.toList.drop 22 = dktX10_feed_1 := dk_seg dksX10_feed_0 22 rfl rfl
theorem dksX10_feed_2 : cX10_feed.data.toList.drop 44 = dktX10_feed_2 := dk_seg dksX10_feed_1 22 rfl rfl
theorem dX10_feed_0 : decode cX10_feed 0 = .ok (.aload_n 0, 1) := dk_42 (dk_at dksX10_feed_0 0 rfl rfl)
theorem dX10_feed_1 : decode cX10_feed 1 = .ok (.iconst 0, 1) := dk_3 (dk_at dksX10_feed_0 1 rfl rfl)
theorem dX10_feed_2 : decode cX10_feed 2 = .ok (.putfield 108, 3) := dk_181 0 108 (dk_at dksX10_feed_0 2 rfl rfl)
theorem dX10_feed_5 : decode cX10_feed 5 = .ok (.aload_n 0, 1) := dk_42 (dk_at dksX10_feed_0 5 rfl rfl)
theorem dX10_feed_6 : decode cX10_feed 6 = .ok (.getfield 112, 3) := dk_180 0 112 (dk_at dksX10_feed_0 6 rfl rfl)
theorem dX10_feed_9 : decode cX10_feed 9 = .ok (.bipush 20, 2) := dk_16 20 (dk_at dksX10_feed_0 9 rfl rfl)
theorem dX10_feed_11 : decode cX10_feed 11 = .ok (.iadd, 1) := dk_96 (dk_at dksX10_feed_0 11 rfl rfl)
theorem dX10_feed_12 : decode cX10_feed 12 = .ok (.sipush 940, 3) := dk_17 3 172 (dk_at dksX10_feed_0 12 rfl rfl)
theorem dX10_feed_15 : decode cX10_feed 15 = .ok (.if_icmp .le 5, 3) := dk_164 0 5 (dk_at dksX10_feed_0 15 rfl rfl)
theorem dX10_feed_18 : decode cX10_feed 18 = .ok (.iconst (-1), 1) := dk_2 (dk_at dksX10_feed_0 18 rfl rfl)
theorem dX10_feed_19 : decode cX10_feed 19 = .ok (.ireturn, 1) := dk_172 (dk_at dksX10_feed_0 19 rfl rfl)
theorem dX10_feed_20 : decode cX10_feed 20 = .ok (.aload_n 0, 1) := dk_42 (dk_at dksX10_feed_0 20 rfl rfl)
theorem dX10_feed_21 : decode cX10_feed 21 = .ok (.iload_n 1, 1) := dk_27 (dk_at dksX10_feed_0 21 rfl rfl)
theorem dX10_feed_22 : decode cX10_feed 22 = .ok (.invokevirtual 115, 3) := dk_182 0 115 (dk_at dksX10_feed_1 0 rfl rfl)
theorem dX10_feed_25 : decode cX10_feed 25 = .ok (.aload_n 0, 1) := dk_42 (dk_at dksX10_feed_1 3 rfl rfl)
theorem dX10_feed_26 : decode cX10_feed 26 = .ok (.iload_n 2, 1) := dk_28 (dk_at dksX10_feed_1 4 rfl rfl)
theorem dX10_feed_27 : decode cX10_feed 27 = .ok (.invokevirtual 115, 3) := dk_182 0 115 (dk_at dksX10_feed_1 5 rfl rfl)
theorem dX10_feed_30 : decode cX10_feed 30 = .ok (.aload_n 0, 1) := dk_42 (dk_at dksX10_feed_1 8 rfl rfl)
theorem dX10_feed_31 : decode cX10_feed 31 = .ok (.iload_n 3, 1) := dk_29 (dk_at dksX10_feed_1 9 rfl rfl)
theorem dX10_feed_32 : decode cX10_feed 32 = .ok (.invokevirtual 115, 3) := dk_182 0 115 (dk_at dksX10_feed_1 10 rfl rfl)
theorem dX10_feed_35 : decode cX10_feed 35 = .ok (.aload_n 0, 1) := dk_42 (dk_at dksX10_feed_1 13 rfl rfl)
theorem dX10_feed_36 : decode cX10_feed 36 = .ok (.iload 4, 2) := dk_21 4 (dk_at dksX10_feed_1 14 rfl rfl)
theorem dX10_feed_38 : decode cX10_feed 38 = .ok (.invokevirtual 115, 3) := dk_182 0 115 (dk_at dksX10_feed_1 16 rfl rfl)
theorem dX10_feed_41 : decode cX10_feed 41 = .ok (.aload_n 0, 1) := dk_42 (dk_at dksX10_feed_1 19 rfl rfl)
theorem dX10_feed_42 : decode cX10_feed 42 = .ok (.iload 5, 2) := dk_21 5 (dk_at dksX10_feed_1 20 rfl rfl)
theorem dX10_feed_44 : decode cX10_feed 44 = .ok (.invokevirtual 115, 3) := dk_182 0 115 (dk_at dksX10_feed_2 0 rfl rfl)
theorem dX10_feed_47 : decode cX10_feed 47 = .ok (.aload_n 0, 1) := dk_42 (dk_at dksX10_feed_2 3 rfl rfl)
theorem dX10_feed_48 : decode cX10_feed 48 = .ok (.getfield 112, 3) := dk_180 0 112 (dk_at dksX10_feed_2 4 rfl rfl)
theorem dX10_feed_51 : decode cX10_feed 51 = .ok (.ireturn, 1) := dk_172 (dk_at dksX10_feed_2 7 rfl rfl)
theorem dn_X10_feed : yX10_feed.cls ≠ "java/lang/invoke/MethodHandle" ∧ yX10_feed.cls ≠ "java/lang/invoke/VarHandle" ∧ (parseMethodDescriptor yX10_feed.desc).map (fun d => d.parameters.length) = some 5 := by decide +kernel
noncomputable def M_X10_feed (p1 : Int32) (p2 : Int32) (p3 : Int32) (p4 : Int32) (p5 : Int32) : TM Int32 := TM.bind (sI 0 0) (fun _ => TM.bind (tI 2) (fun v1 => if (v1 + 20) ≤ 940 then TM.bind (M_X10_come p1) (fun v2 => TM.bind (M_X10_come p2) (fun v3 => TM.bind (M_X10_come p3) (fun v4 => TM.bind (M_X10_come p4) (fun v5 => TM.bind (M_X10_come p5) (fun v6 => TM.bind (tI 2) (fun v7 => TM.pure v7)))))) else TM.pure (-1)))
set_option maxHeartbeats 4000000 in
theorem ct_X10_feed (G : gG) (am : Nat) (p1 : Int32) (p2 : Int32) (p3 : Int32) (p4 : Int32) (p5 : Int32) : gCtM G am yX10_feed cX10_feed 6 (some .int) 1 22 [.ref am, .int p1, .int p2, .int p3, .int p4, .int p5] (M_X10_feed p1 p2 p3 p4 p5) (fun x : Int32 => some (.int x)) := by
  refine gCtM.of (by decide) (Nat.le_of_ble_eq_true rfl) (fun K hn ms ms' r hG X hK hd ho => ?_)
  subst hG
  have X : gX K cX10_feed 6 "BitingDoorsModel" "feed" (some .int) 1 22 := X
  show V K 6 (mkM am hn ms) 0 [(0, .ref am), (1, .int p1), (2, .int p2), (3, .int p3), (4, .int p4), (5, .int p5)] []
  unfold M_X10_feed at hd
  refine v_aload_n X dX10_feed_0 0 0 rfl rfl ?_
  refine v_iconst (v := 0) X dX10_feed_1 (by decide) ?_
  refine t_putI X hd rfl fp_X10_108 dX10_feed_2 (fun ms hd => ?_)
  refine v_aload_n X dX10_feed_5 0 0 rfl rfl ?_
  refine t_getI X hd rfl fl_X10_112 dX10_feed_6 (fun v1 hd => ?_)
  refine v_bipush (v := 20) X dX10_feed_9 (by decide) ?_
  refine v_iadd X dX10_feed_11 ?_
  refine v_sipush (v := 940) X dX10_feed_12 (by decide) ?_
  refine v_icmp_le (tgt := 20) X dX10_feed_15 (by decide) (fun q => ?_) (fun q => ?_)
  · have hd := Tite_t q hd
    refine v_aload_n X dX10_feed_20 0 0 rfl rfl ?_
    refine v_iload_n X dX10_feed_21 1 1 rfl rfl ?_
    refine t_callV X hK hd (ct_X10_come _ am p1) (lw_V q1852 q1854 qs35 q120 q1855) ⟨rfl, dn_X10_come⟩ rfl ⟨by decide, by decide⟩ rfl (Nat.le_of_ble_eq_true rfl) dX10_feed_22 (fun v2 ms hd => ?_)
    show V K 6 (mkM am hn ms) 25 [(0, .ref am), (1, .int p1), (2, .int p2), (3, .int p3), (4, .int p4), (5, .int p5)] []
    refine v_aload_n X dX10_feed_25 0 0 rfl rfl ?_
    refine v_iload_n X dX10_feed_26 2 2 rfl rfl ?_
    refine t_callV X hK hd (ct_X10_come _ am p2) (lw_V q1852 q1854 qs35 q120 q1855) ⟨rfl, dn_X10_come⟩ rfl ⟨by decide, by decide⟩ rfl (Nat.le_of_ble_eq_true rfl) dX10_feed_27 (fun v3 ms hd => ?_)
    show V K 6 (mkM am hn ms) 30 [(0, .ref am), (1, .int p1), (2, .int p2), (3, .int p3), (4, .int p4), (5, .int p5)] []
    refine v_aload_n X dX10_feed_30 0 0 rfl rfl ?_
    refine v_iload_n X dX10_feed_31 3 3 rfl rfl ?_
    refine t_callV X hK hd (ct_X10_come _ am p3) (lw_V q1852 q1854 qs35 q120 q1855) ⟨rfl, dn_X10_come⟩ rfl ⟨by decide, by decide⟩ rfl (Nat.le_of_ble_eq_true rfl) dX10_feed_32 (fun v4 ms hd => ?_)
    show V K 6 (mkM am hn ms) 35 [(0, .ref am), (1, .int p1), (2, .int p2), (3, .int p3), (4, .int p4), (5, .int p5)] []
    refine v_aload_n X dX10_feed_35 0 0 rfl rfl ?_
    refine v_iload X dX10_feed_36 4 rfl ?_
    refine t_callV X hK hd (ct_X10_come _ am p4) (lw_V q1852 q1854 qs35 q120 q1855) ⟨rfl, dn_X10_come⟩ rfl ⟨by decide, by decide⟩ rfl (Nat.le_of_ble_eq_true rfl) dX10_feed_38 (fun v5 ms hd => ?_)
    show V K 6 (mkM am hn ms) 41 [(0, .ref am), (1, .int p1), (2, .int p2), (3, .int p3), (4, .int p4), (5, .int p5)] []
    refine v_aload_n X dX10_feed_41 0 0 rfl rfl ?_
    refine v_iload X dX10_feed_42 5 rfl ?_
    refine t_callV X hK hd (ct_X10_come _ am p5) (lw_V q1852 q1854 qs35 q120 q1855) ⟨rfl, dn_X10_come⟩ rfl ⟨by decide, by decide⟩ rfl (Nat.le_of_ble_eq_true rfl) dX10_feed_44 (fun v6 ms hd => ?_)
    show V K 6 (mkM am hn ms) 47 [(0, .ref am), (1, .int p1), (2, .int p2), (3, .int p3), (4, .int p4), (5, .int p5)] []
    refine v_aload_n X dX10_feed_47 0 0 rfl rfl ?_
    refine t_getI X hd rfl fl_X10_112 dX10_feed_48 (fun v7 hd => ?_)
    exact t_iret X hK hd ho dX10_feed_51
  · have hd := Tite_f q hd
    refine v_iconst (v := (-1)) X dX10_feed_18 (by decide) ?_
    exact t_iret X hK hd ho dX10_feed_19
def dkwX10_isSo_12 : List UInt8 := [164, 0, 7, 4, 167, 0, 4, 3, 172]
abbrev dktX10_isSo_12 : List UInt8 := dkwX10_isSo_12 ++ []
def dkwX10_isSo_11 : List UInt8 := [16, 61, 160, 0, 18, 21, 6, 21, 5, 160, 0, 7, 4, 167, 0, 19, 3, 167, 0, 15, 21, 6, 21, 5]
abbrev dktX10_isSo_11 : List UInt8 := dkwX10_isSo_11 ++ dktX10_isSo_12
def dkwX10_isSo_10 : List UInt8 := [21, 6, 21, 5, 162, 0, 7, 4, 167, 0, 47, 3, 167, 0, 43, 42, 180, 0, 13, 29, 6, 96, 46]
abbrev dktX10_isSo_10 : List UInt8 := dkwX10_isSo_10 ++ dktX10_isSo_11
def dkwX10_isSo_9 : List UInt8 := [180, 0, 13, 29, 46, 28, 182, 1, 221, 54, 6, 42, 180, 0, 13, 29, 6, 96, 46, 16, 60, 160, 0, 18]
abbrev dktX10_isSo_9 : List UInt8 := dkwX10_isSo_9 ++ dktX10_isSo_10
def dkwX10_isSo_8 : List UInt8 := [21, 4, 42, 21, 4, 7, 182, 1, 11, 182, 1, 42, 153, 0, 7, 4, 167, 0, 4, 3, 172, 42, 42]
abbrev dktX10_isSo_8 : List UInt8 := dkwX10_isSo_8 ++ dktX10_isSo_9
def dkwX10_isSo_7 : List UInt8 := [182, 1, 29, 172, 42, 28, 182, 1, 110, 172, 21, 4, 28, 159, 0, 30, 42, 28, 42, 28, 7, 182, 1, 11]
abbrev dktX10_isSo_7 : List UInt8 := dkwX10_isSo_7 ++ dktX10_isSo_8
def dkwX10_isSo_6 : List UInt8 := [180, 0, 78, 28, 46, 158, 0, 7, 4, 167, 0, 4, 3, 172, 42, 28, 42, 28, 7, 182, 1, 11]
abbrev dktX10_isSo_6 : List UInt8 := dkwX10_isSo_6 ++ dktX10_isSo_7
def dkwX10_isSo_5 : List UInt8 := [182, 1, 218, 154, 0, 13, 42, 21, 5, 28, 182, 1, 218, 153, 0, 7, 4, 167, 0, 4, 3, 172, 42]
abbrev dktX10_isSo_5 : List UInt8 := dkwX10_isSo_5 ++ dktX10_isSo_6
def dkwX10_isSo_4 : List UInt8 := [153, 0, 17, 42, 21, 5, 28, 182, 1, 218, 153, 0, 7, 4, 167, 0, 4, 3, 172, 42, 21, 4, 28]
abbrev dktX10_isSo_4 : List UInt8 := dkwX10_isSo_4 ++ dktX10_isSo_5
def dkwX10_isSo_3 : List UInt8 := [42, 21, 4, 28, 182, 1, 218, 154, 0, 7, 4, 167, 0, 4, 3, 172, 42, 21, 4, 28, 182, 1, 218]
abbrev dktX10_isSo_3 : List UInt8 := dkwX10_isSo_3 ++ dktX10_isSo_4
def dkwX10_isSo_2 : List UInt8 := [170, 0, 0, 0, 0, 178, 0, 0, 0, 1, 0, 0, 0, 7, 0, 0, 0, 42, 0, 0, 0, 58, 0, 0, 0, 84, 0, 0, 0, 110, 0, 0, 0, 125, 0, 0, 0, 137, 0, 0, 0, 143]
abbrev dktX10_isSo_2 : List UInt8 := dkwX10_isSo_2 ++ dktX10_isSo_3
def dkwX10_isSo_1 : List UInt8 := [96, 46, 54, 5, 42, 180, 0, 13, 29, 46]
abbrev dktX10_isSo_1 : List UInt8 := dkwX10_isSo_1 ++ dktX10_isSo_2
def dkwX10_isSo_0 : List UInt8 := [17, 1, 208, 7, 27, 104, 96, 62, 42, 180, 0, 13, 29, 4, 96, 46, 54, 4, 42, 180, 0, 13, 29, 5]
abbrev dktX10_isSo_0 : List UInt8 := dkwX10_isSo_0 ++ dktX10_isSo_1
theorem dksX10_isSo_0 : cX10_isSo.data.toList.drop 0 = dktX10_isSo_0 := by decide +kernel
theorem dksX10_isSo_1 : cX10_isSo.data.toList.drop 24 = dktX10_isSo_1 := dk_seg dksX10_isSo_0 24 rfl rfl
theorem dksX10_isSo_2 : cX10_isSo.data.toList.drop 34 = dktX10_isSo_2 := dk_seg dksX10_isSo_1 10 rfl rfl
theorem dksX10_isSo_3 : cX10_isSo.data.toList.drop 76 = dktX10_isSo_3 := dk_seg dksX10_isSo_2 42 rfl rfl
theorem dksX10_isSo_4 : cX10_isSo.data.toList.drop 99 = dktX10_isSo_4 := dk_seg dksX10_isSo_3 23 rfl rfl
theorem dksX10_isSo_5 : cX10_isSo.data.toList.drop 122 = dktX10_isSo_5 := dk_seg dksX10_isSo_4 23 rfl rfl
theorem dksX10_isSo_6 : cX10_isSo.data.toList.drop 145 = dktX10_isSo_6 := dk_seg dksX10_isSo_5 23 rfl rfl
theorem dksX10_isSo_7 : cX10_isSo.data.toList.drop 167 = dktX10_isSo_7 := dk_seg dksX10_isSo_6 22 rfl rfl
theorem dksX10_isSo_8 : cX10_isSo.data.toList.drop 191 = dktX10_isSo_8 := dk_seg dksX10_isSo_7 24 rfl rfl
theorem dksX10_isSo_9 : cX10_isSo.data.toList.drop 214 = dktX10_isSo_9 := dk_seg dksX10_isSo_8 23 rfl rfl
theorem dksX10_isSo_10 : cX10_isSo.data.toList.drop 238 = dktX10_isSo_10 := dk_seg dksX10_isSo_9 24 rfl rfl
theorem dksX10_isSo_11 : cX10_isSo.data.toList.drop 261 = dktX10_isSo_11 := dk_seg dksX10_isSo_10 23 rfl rfl
theorem dksX10_isSo_12 : cX10_isSo.data.toList.drop 285 = dktX10_isSo_12 := dk_seg dksX10_isSo_11 24 rfl rfl
theorem dX10_isSo_0 : decode cX10_isSo 0 = .ok (.sipush 464, 3) := dk_17 1 208 (dk_at dksX10_isSo_0 0 rfl rfl)
theorem dX10_isSo_3 : decode cX10_isSo 3 = .ok (.iconst 4, 1) := dk_7 (dk_at dksX10_isSo_0 3 rfl rfl)
theorem dX10_isSo_4 : decode cX10_isSo 4 = .ok (.iload_n 1, 1) := dk_27 (dk_at dksX10_isSo_0 4 rfl rfl)
theorem dX10_isSo_5 : decode cX10_isSo 5 = .ok (.imul, 1) := dk_104 (dk_at dksX10_isSo_0 5 rfl rfl)
theorem dX10_isSo_6 : decode cX10_isSo 6 = .ok (.iadd, 1) := dk_96 (dk_at dksX10_isSo_0 6 rfl rfl)
theorem dX10_isSo_7 : decode cX10_isSo 7 = .ok (.istore_n 3, 1) := dk_62 (dk_at dksX10_isSo_0 7 rfl rfl)
theorem dX10_isSo_8 : decode cX10_isSo 8 = .ok (.aload_n 0, 1) := dk_42 (dk_at dksX10_isSo_0 8 rfl rfl)
theorem dX10_isSo_9 : decode cX10_isSo 9 = .ok (.getfield 13, 3) := dk_180 0 13 (dk_at dksX10_isSo_0 9 rfl rfl)
theorem dX10_isSo_12 : decode cX10_isSo 12 = .ok (.iload_n 3, 1) := dk_29 (dk_at dksX10_isSo_0 12 rfl rfl)
theorem dX10_isSo_13 : decode cX10_isSo 13 = .ok (.iconst 1, 1) := dk_4 (dk_at dksX10_isSo_0 13 rfl rfl)
theorem dX10_isSo_14 : decode cX10_isSo 14 = .ok (.iadd, 1) := dk_96 (dk_at dksX10_isSo_0 14 rfl rfl)
theorem dX10_isSo_15 : decode cX10_isSo 15 = .ok (.iaload, 1) := dk_46 (dk_at dksX10_isSo_0 15 rfl rfl)
theorem dX10_isSo_16 : decode cX10_isSo 16 = .ok (.istore 4, 2) := dk_54 4 (dk_at dksX10_isSo_0 16 rfl rfl)
theorem dX10_isSo_18 : decode cX10_isSo 18 = .ok (.aload_n 0, 1) := dk_42 (dk_at dksX10_isSo_0 18 rfl rfl)
theorem dX10_isSo_19 : decode cX10_isSo 19 = .ok (.getfield 13, 3) := dk_180 0 13 (dk_at dksX10_isSo_0 19 rfl rfl)
theorem dX10_isSo_22 : decode cX10_isSo 22 = .ok (.iload_n 3, 1) := dk_29 (dk_at dksX10_isSo_0 22 rfl rfl)
theorem dX10_isSo_23 : decode cX10_isSo 23 = .ok (.iconst 2, 1) := dk_5 (dk_at dksX10_isSo_0 23 rfl rfl)
theorem dX10_isSo_24 : decode cX10_isSo 24 = .ok (.iadd, 1) := dk_96 (dk_at dksX10_isSo_1 0 rfl rfl)
theorem dX10_isSo_25 : decode cX10_isSo 25 = .ok (.iaload, 1) := dk_46 (dk_at dksX10_isSo_1 1 rfl rfl)
theorem dX10_isSo_26 : decode cX10_isSo 26 = .ok (.istore 5, 2) := dk_54 5 (dk_at dksX10_isSo_1 2 rfl rfl)
theorem dX10_isSo_28 : decode cX10_isSo 28 = .ok (.aload_n 0, 1) := dk_42 (dk_at dksX10_isSo_1 4 rfl rfl)
theorem dX10_isSo_29 : decode cX10_isSo 29 = .ok (.getfield 13, 3) := dk_180 0 13 (dk_at dksX10_isSo_1 5 rfl rfl)
theorem dX10_isSo_32 : decode cX10_isSo 32 = .ok (.iload_n 3, 1) := dk_29 (dk_at dksX10_isSo_1 8 rfl rfl)
theorem dX10_isSo_33 : decode cX10_isSo 33 = .ok (.iaload, 1) := dk_46 (dk_at dksX10_isSo_1 9 rfl rfl)
theorem dX10_isSo_34 : decode cX10_isSo 34 = .ok (.tableswitch 178 1 7 #[42, 58, 84, 110, 125, 137, 143], 42) := by decide +kernel
theorem dX10_isSo_76 : decode cX10_isSo 76 = .ok (.aload_n 0, 1) := dk_42 (dk_at dksX10_isSo_3 0 rfl rfl)
theorem dX10_isSo_77 : decode cX10_isSo 77 = .ok (.iload 4, 2) := dk_21 4 (dk_at dksX10_isSo_3 1 rfl rfl)
theorem dX10_isSo_79 : decode cX10_isSo 79 = .ok (.iload_n 2, 1) := dk_28 (dk_at dksX10_isSo_3 3 rfl rfl)
theorem dX10_isSo_80 : decode cX10_isSo 80 = .ok (.invokevirtual 474, 3) := dk_182 1 218 (dk_at dksX10_isSo_3 4 rfl rfl)
theorem dX10_isSo_83 : decode cX10_isSo 83 = .ok (.ifCond .ne 7, 3) := dk_154 0 7 (dk_at dksX10_isSo_3 7 rfl rfl)
theorem dX10_isSo_86 : decode cX10_isSo 86 = .ok (.iconst 1, 1) := dk_4 (dk_at dksX10_isSo_3 10 rfl rfl)
theorem dX10_isSo_87 : decode cX10_isSo 87 = .ok (.goto 4, 3) := dk_167 0 4 (dk_at dksX10_isSo_3 11 rfl rfl)
theorem dX10_isSo_90 : decode cX10_isSo 90 = .ok (.iconst 0, 1) := dk_3 (dk_at dksX10_isSo_3 14 rfl rfl)
theorem dX10_isSo_91 : decode cX10_isSo 91 = .ok (.ireturn, 1) := dk_172 (dk_at dksX10_isSo_3 15 rfl rfl)
theorem dX10_isSo_92 : decode cX10_isSo 92 = .ok (.aload_n 0, 1) := dk_42 (dk_at dksX10_isSo_3 16 rfl rfl)
theorem dX10_isSo_93 : decode cX10_isSo 93 = .ok (.iload 4, 2) := dk_21 4 (dk_at dksX10_isSo_3 17 rfl rfl)
theorem dX10_isSo_95 : decode cX10_isSo 95 = .ok (.iload_n 2, 1) := dk_28 (dk_at dksX10_isSo_3 19 rfl rfl)
theorem dX10_isSo_96 : decode cX10_isSo 96 = .ok (.invokevirtual 474, 3) := dk_182 1 218 (dk_at dksX10_isSo_3 20 rfl rfl)
theorem dX10_isSo_99 : decode cX10_isSo 99 = .ok (.ifCond .eq 17, 3) := dk_153 0 17 (dk_at dksX10_isSo_4 0 rfl rfl)
theorem dX10_isSo_102 : decode cX10_isSo 102 = .ok (.aload_n 0, 1) := dk_42 (dk_at dksX10_isSo_4 3 rfl rfl)
theorem dX10_isSo_103 : decode cX10_isSo 103 = .ok (.iload 5, 2) := dk_21 5 (dk_at dksX10_isSo_4 4 rfl rfl)
theorem dX10_isSo_105 : decode cX10_isSo 105 = .ok (.iload_n 2, 1) := dk_28 (dk_at dksX10_isSo_4 6 rfl rfl)
theorem dX10_isSo_106 : decode cX10_isSo 106 = .ok (.invokevirtual 474, 3) := dk_182 1 218 (dk_at dksX10_isSo_4 7 rfl rfl)
theorem dX10_isSo_109 : decode cX10_isSo 109 = .ok (.ifCond .eq 7, 3) := dk_153 0 7 (dk_at dksX10_isSo_4 10 rfl rfl)
theorem dX10_isSo_112 : decode cX10_isSo 112 = .ok (.iconst 1, 1) := dk_4 (dk_at dksX10_isSo_4 13 rfl rfl)
theorem dX10_isSo_113 : decode cX10_isSo 113 = .ok (.goto 4, 3) := dk_167 0 4 (dk_at dksX10_isSo_4 14 rfl rfl)
theorem dX10_isSo_116 : decode cX10_isSo 116 = .ok (.iconst 0, 1) := dk_3 (dk_at dksX10_isSo_4 17 rfl rfl)
theorem dX10_isSo_117 : decode cX10_isSo 117 = .ok (.ireturn, 1) := dk_172 (dk_at dksX10_isSo_4 18 rfl rfl)
theorem dX10_isSo_118 : decode cX10_isSo 118 = .ok (.aload_n 0, 1) := dk_42 (dk_at dksX10_isSo_4 19 rfl rfl)
theorem dX10_isSo_119 : decode cX10_isSo 119 = .ok (.iload 4, 2) := dk_21 4 (dk_at dksX10_isSo_4 20 rfl rfl)
theorem dX10_isSo_121 : decode cX10_isSo 121 = .ok (.iload_n 2, 1) := dk_28 (dk_at dksX10_isSo_4 22 rfl rfl)
theorem dX10_isSo_122 : decode cX10_isSo 122 = .ok (.invokevirtual 474, 3) := dk_182 1 218 (dk_at dksX10_isSo_5 0 rfl rfl)
theorem dX10_isSo_125 : decode cX10_isSo 125 = .ok (.ifCond .ne 13, 3) := dk_154 0 13 (dk_at dksX10_isSo_5 3 rfl rfl)
theorem dX10_isSo_128 : decode cX10_isSo 128 = .ok (.aload_n 0, 1) := dk_42 (dk_at dksX10_isSo_5 6 rfl rfl)
theorem dX10_isSo_129 : decode cX10_isSo 129 = .ok (.iload 5, 2) := dk_21 5 (dk_at dksX10_isSo_5 7 rfl rfl)
theorem dX10_isSo_131 : decode cX10_isSo 131 = .ok (.iload_n 2, 1) := dk_28 (dk_at dksX10_isSo_5 9 rfl rfl)
theorem dX10_isSo_132 : decode cX10_isSo 132 = .ok (.invokevirtual 474, 3) := dk_182 1 218 (dk_at dksX10_isSo_5 10 rfl rfl)
theorem dX10_isSo_135 : decode cX10_isSo 135 = .ok (.ifCond .eq 7, 3) := dk_153 0 7 (dk_at dksX10_isSo_5 13 rfl rfl)
theorem dX10_isSo_138 : decode cX10_isSo 138 = .ok (.iconst 1, 1) := dk_4 (dk_at dksX10_isSo_5 16 rfl rfl)
theorem dX10_isSo_139 : decode cX10_isSo 139 = .ok (.goto 4, 3) := dk_167 0 4 (dk_at dksX10_isSo_5 17 rfl rfl)
theorem dX10_isSo_142 : decode cX10_isSo 142 = .ok (.iconst 0, 1) := dk_3 (dk_at dksX10_isSo_5 20 rfl rfl)
theorem dX10_isSo_143 : decode cX10_isSo 143 = .ok (.ireturn, 1) := dk_172 (dk_at dksX10_isSo_5 21 rfl rfl)
theorem dX10_isSo_144 : decode cX10_isSo 144 = .ok (.aload_n 0, 1) := dk_42 (dk_at dksX10_isSo_5 22 rfl rfl)
theorem dX10_isSo_145 : decode cX10_isSo 145 = .ok (.getfield 78, 3) := dk_180 0 78 (dk_at dksX10_isSo_6 0 rfl rfl)
theorem dX10_isSo_148 : decode cX10_isSo 148 = .ok (.iload_n 2, 1) := dk_28 (dk_at dksX10_isSo_6 3 rfl rfl)
theorem dX10_isSo_149 : decode cX10_isSo 149 = .ok (.iaload, 1) := dk_46 (dk_at dksX10_isSo_6 4 rfl rfl)
theorem dX10_isSo_150 : decode cX10_isSo 150 = .ok (.ifCond .le 7, 3) := dk_158 0 7 (dk_at dksX10_isSo_6 5 rfl rfl)
theorem dX10_isSo_153 : decode cX10_isSo 153 = .ok (.iconst 1, 1) := dk_4 (dk_at dksX10_isSo_6 8 rfl rfl)
theorem dX10_isSo_154 : decode cX10_isSo 154 = .ok (.goto 4, 3) := dk_167 0 4 (dk_at dksX10_isSo_6 9 rfl rfl)
theorem dX10_isSo_157 : decode cX10_isSo 157 = .ok (.iconst 0, 1) := dk_3 (dk_at dksX10_isSo_6 12 rfl rfl)
theorem dX10_isSo_158 : decode cX10_isSo 158 = .ok (.ireturn, 1) := dk_172 (dk_at dksX10_isSo_6 13 rfl rfl)
theorem dX10_isSo_159 : decode cX10_isSo 159 = .ok (.aload_n 0, 1) := dk_42 (dk_at dksX10_isSo_6 14 rfl rfl)
theorem dX10_isSo_160 : decode cX10_isSo 160 = .ok (.iload_n 2, 1) := dk_28 (dk_at dksX10_isSo_6 15 rfl rfl)
theorem dX10_isSo_161 : decode cX10_isSo 161 = .ok (.aload_n 0, 1) := dk_42 (dk_at dksX10_isSo_6 16 rfl rfl)
theorem dX10_isSo_162 : decode cX10_isSo 162 = .ok (.iload_n 2, 1) := dk_28 (dk_at dksX10_isSo_6 17 rfl rfl)
theorem dX10_isSo_163 : decode cX10_isSo 163 = .ok (.iconst 4, 1) := dk_7 (dk_at dksX10_isSo_6 18 rfl rfl)
theorem dX10_isSo_164 : decode cX10_isSo 164 = .ok (.invokevirtual 267, 3) := dk_182 1 11 (dk_at dksX10_isSo_6 19 rfl rfl)
theorem dX10_isSo_167 : decode cX10_isSo 167 = .ok (.invokevirtual 285, 3) := dk_182 1 29 (dk_at dksX10_isSo_7 0 rfl rfl)
theorem dX10_isSo_170 : decode cX10_isSo 170 = .ok (.ireturn, 1) := dk_172 (dk_at dksX10_isSo_7 3 rfl rfl)
theorem dX10_isSo_171 : decode cX10_isSo 171 = .ok (.aload_n 0, 1) := dk_42 (dk_at dksX10_isSo_7 4 rfl rfl)
theorem dX10_isSo_172 : decode cX10_isSo 172 = .ok (.iload_n 2, 1) := dk_28 (dk_at dksX10_isSo_7 5 rfl rfl)
theorem dX10_isSo_173 : decode cX10_isSo 173 = .ok (.invokevirtual 366, 3) := dk_182 1 110 (dk_at dksX10_isSo_7 6 rfl rfl)
theorem dX10_isSo_176 : decode cX10_isSo 176 = .ok (.ireturn, 1) := dk_172 (dk_at dksX10_isSo_7 9 rfl rfl)
theorem dX10_isSo_177 : decode cX10_isSo 177 = .ok (.iload 4, 2) := dk_21 4 (dk_at dksX10_isSo_7 10 rfl rfl)
theorem dX10_isSo_179 : decode cX10_isSo 179 = .ok (.iload_n 2, 1) := dk_28 (dk_at dksX10_isSo_7 12 rfl rfl)
theorem dX10_isSo_180 : decode cX10_isSo 180 = .ok (.if_icmp .eq 30, 3) := dk_159 0 30 (dk_at dksX10_isSo_7 13 rfl rfl)
theorem dX10_isSo_183 : decode cX10_isSo 183 = .ok (.aload_n 0, 1) := dk_42 (dk_at dksX10_isSo_7 16 rfl rfl)
theorem dX10_isSo_184 : decode cX10_isSo 184 = .ok (.iload_n 2, 1) := dk_28 (dk_at dksX10_isSo_7 17 rfl rfl)
theorem dX10_isSo_185 : decode cX10_isSo 185 = .ok (.aload_n 0, 1) := dk_42 (dk_at dksX10_isSo_7 18 rfl rfl)
theorem dX10_isSo_186 : decode cX10_isSo 186 = .ok (.iload_n 2, 1) := dk_28 (dk_at dksX10_isSo_7 19 rfl rfl)
theorem dX10_isSo_187 : decode cX10_isSo 187 = .ok (.iconst 4, 1) := dk_7 (dk_at dksX10_isSo_7 20 rfl rfl)
theorem dX10_isSo_188 : decode cX10_isSo 188 = .ok (.invokevirtual 267, 3) := dk_182 1 11 (dk_at dksX10_isSo_7 21 rfl rfl)
theorem dX10_isSo_191 : decode cX10_isSo 191 = .ok (.iload 4, 2) := dk_21 4 (dk_at dksX10_isSo_8 0 rfl rfl)
theorem dX10_isSo_193 : decode cX10_isSo 193 = .ok (.aload_n 0, 1) := dk_42 (dk_at dksX10_isSo_8 2 rfl rfl)
theorem dX10_isSo_194 : decode cX10_isSo 194 = .ok (.iload 4, 2) := dk_21 4 (dk_at dksX10_isSo_8 3 rfl rfl)
theorem dX10_isSo_196 : decode cX10_isSo 196 = .ok (.iconst 4, 1) := dk_7 (dk_at dksX10_isSo_8 5 rfl rfl)
theorem dX10_isSo_197 : decode cX10_isSo 197 = .ok (.invokevirtual 267, 3) := dk_182 1 11 (dk_at dksX10_isSo_8 6 rfl rfl)
theorem dX10_isSo_200 : decode cX10_isSo 200 = .ok (.invokevirtual 298, 3) := dk_182 1 42 (dk_at dksX10_isSo_8 9 rfl rfl)
theorem dX10_isSo_203 : decode cX10_isSo 203 = .ok (.ifCond .eq 7, 3) := dk_153 0 7 (dk_at dksX10_isSo_8 12 rfl rfl)
theorem dX10_isSo_206 : decode cX10_isSo 206 = .ok (.iconst 1, 1) := dk_4 (dk_at dksX10_isSo_8 15 rfl rfl)
theorem dX10_isSo_207 : decode cX10_isSo 207 = .ok (.goto 4, 3) := dk_167 0 4 (dk_at dksX10_isSo_8 16 rfl rfl)
theorem dX10_isSo_210 : decode cX10_isSo 210 = .ok (.iconst 0, 1) := dk_3 (dk_at dksX10_isSo_8 19 rfl rfl)
theorem dX10_isSo_211 : decode cX10_isSo 211 = .ok (.ireturn, 1) := dk_172 (dk_at dksX10_isSo_8 20 rfl rfl)
theorem dX10_isSo_212 : decode cX10_isSo 212 = .ok (.aload_n 0, 1) := dk_42 (dk_at dksX10_isSo_8 21 rfl rfl)
theorem dX10_isSo_213 : decode cX10_isSo 213 = .ok (.aload_n 0, 1) := dk_42 (dk_at dksX10_isSo_8 22 rfl rfl)
theorem dX10_isSo_214 : decode cX10_isSo 214 = .ok (.getfield 13, 3) := dk_180 0 13 (dk_at dksX10_isSo_9 0 rfl rfl)
theorem dX10_isSo_217 : decode cX10_isSo 217 = .ok (.iload_n 3, 1) := dk_29 (dk_at dksX10_isSo_9 3 rfl rfl)
theorem dX10_isSo_218 : decode cX10_isSo 218 = .ok (.iaload, 1) := dk_46 (dk_at dksX10_isSo_9 4 rfl rfl)
theorem dX10_isSo_219 : decode cX10_isSo 219 = .ok (.iload_n 2, 1) := dk_28 (dk_at dksX10_isSo_9 5 rfl rfl)
theorem dX10_isSo_220 : decode cX10_isSo 220 = .ok (.invokevirtual 477, 3) := dk_182 1 221 (dk_at dksX10_isSo_9 6 rfl rfl)
theorem dX10_isSo_223 : decode cX10_isSo 223 = .ok (.istore 6, 2) := dk_54 6 (dk_at dksX10_isSo_9 9 rfl rfl)
theorem dX10_isSo_225 : decode cX10_isSo 225 = .ok (.aload_n 0, 1) := dk_42 (dk_at dksX10_isSo_9 11 rfl rfl)
theorem dX10_isSo_226 : decode cX10_isSo 226 = .ok (.getfield 13, 3) := dk_180 0 13 (dk_at dksX10_isSo_9 12 rfl rfl)
theorem dX10_isSo_229 : decode cX10_isSo 229 = .ok (.iload_n 3, 1) := dk_29 (dk_at dksX10_isSo_9 15 rfl rfl)
theorem dX10_isSo_230 : decode cX10_isSo 230 = .ok (.iconst 3, 1) := dk_6 (dk_at dksX10_isSo_9 16 rfl rfl)
theorem dX10_isSo_231 : decode cX10_isSo 231 = .ok (.iadd, 1) := dk_96 (dk_at dksX10_isSo_9 17 rfl rfl)
theorem dX10_isSo_232 : decode cX10_isSo 232 = .ok (.iaload, 1) := dk_46 (dk_at dksX10_isSo_9 18 rfl rfl)
theorem dX10_isSo_233 : decode cX10_isSo 233 = .ok (.bipush 60, 2) := dk_16 60 (dk_at dksX10_isSo_9 19 rfl rfl)
theorem dX10_isSo_235 : decode cX10_isSo 235 = .ok (.if_icmp .ne 18, 3) := dk_160 0 18 (dk_at dksX10_isSo_9 21 rfl rfl)
theorem dX10_isSo_238 : decode cX10_isSo 238 = .ok (.iload 6, 2) := dk_21 6 (dk_at dksX10_isSo_10 0 rfl rfl)
theorem dX10_isSo_240 : decode cX10_isSo 240 = .ok (.iload 5, 2) := dk_21 5 (dk_at dksX10_isSo_10 2 rfl rfl)
theorem dX10_isSo_242 : decode cX10_isSo 242 = .ok (.if_icmp .ge 7, 3) := dk_162 0 7 (dk_at dksX10_isSo_10 4 rfl rfl)
theorem dX10_isSo_245 : decode cX10_isSo 245 = .ok (.iconst 1, 1) := dk_4 (dk_at dksX10_isSo_10 7 rfl rfl)
theorem dX10_isSo_246 : decode cX10_isSo 246 = .ok (.goto 47, 3) := dk_167 0 47 (dk_at dksX10_isSo_10 8 rfl rfl)
theorem dX10_isSo_249 : decode cX10_isSo 249 = .ok (.iconst 0, 1) := dk_3 (dk_at dksX10_isSo_10 11 rfl rfl)
theorem dX10_isSo_250 : decode cX10_isSo 250 = .ok (.goto 43, 3) := dk_167 0 43 (dk_at dksX10_isSo_10 12 rfl rfl)
theorem dX10_isSo_253 : decode cX10_isSo 253 = .ok (.aload_n 0, 1) := dk_42 (dk_at dksX10_isSo_10 15 rfl rfl)
theorem dX10_isSo_254 : decode cX10_isSo 254 = .ok (.getfield 13, 3) := dk_180 0 13 (dk_at dksX10_isSo_10 16 rfl rfl)
theorem dX10_isSo_257 : decode cX10_isSo 257 = .ok (.iload_n 3, 1) := dk_29 (dk_at dksX10_isSo_10 19 rfl rfl)
theorem dX10_isSo_258 : decode cX10_isSo 258 = .ok (.iconst 3, 1) := dk_6 (dk_at dksX10_isSo_10 20 rfl rfl)
theorem dX10_isSo_259 : decode cX10_isSo 259 = .ok (.iadd, 1) := dk_96 (dk_at dksX10_isSo_10 21 rfl rfl)
theorem dX10_isSo_260 : decode cX10_isSo 260 = .ok (.iaload, 1) := dk_46 (dk_at dksX10_isSo_10 22 rfl rfl)
theorem dX10_isSo_261 : decode cX10_isSo 261 = .ok (.bipush 61, 2) := dk_16 61 (dk_at dksX10_isSo_11 0 rfl rfl)
theorem dX10_isSo_263 : decode cX10_isSo 263 = .ok (.if_icmp .ne 18, 3) := dk_160 0 18 (dk_at dksX10_isSo_11 2 rfl rfl)
theorem dX10_isSo_266 : decode cX10_isSo 266 = .ok (.iload 6, 2) := dk_21 6 (dk_at dksX10_isSo_11 5 rfl rfl)
theorem dX10_isSo_268 : decode cX10_isSo 268 = .ok (.iload 5, 2) := dk_21 5 (dk_at dksX10_isSo_11 7 rfl rfl)
theorem dX10_isSo_270 : decode cX10_isSo 270 = .ok (.if_icmp .ne 7, 3) := dk_160 0 7 (dk_at dksX10_isSo_11 9 rfl rfl)
theorem dX10_isSo_273 : decode cX10_isSo 273 = .ok (.iconst 1, 1) := dk_4 (dk_at dksX10_isSo_11 12 rfl rfl)
theorem dX10_isSo_274 : decode cX10_isSo 274 = .ok (.goto 19, 3) := dk_167 0 19 (dk_at dksX10_isSo_11 13 rfl rfl)
theorem dX10_isSo_277 : decode cX10_isSo 277 = .ok (.iconst 0, 1) := dk_3 (dk_at dksX10_isSo_11 16 rfl rfl)
theorem dX10_isSo_278 : decode cX10_isSo 278 = .ok (.goto 15, 3) := dk_167 0 15 (dk_at dksX10_isSo_11 17 rfl rfl)
theorem dX10_isSo_281 : decode cX10_isSo 281 = .ok (.iload 6, 2) := dk_21 6 (dk_at dksX10_isSo_11 20 rfl rfl)
theorem dX10_isSo_283 : decode cX10_isSo 283 = .ok (.iload 5, 2) := dk_21 5 (dk_at dksX10_isSo_11 22 rfl rfl)
theorem dX10_isSo_285 : decode cX10_isSo 285 = .ok (.if_icmp .le 7, 3) := dk_164 0 7 (dk_at dksX10_isSo_12 0 rfl rfl)
theorem dX10_isSo_288 : decode cX10_isSo 288 = .ok (.iconst 1, 1) := dk_4 (dk_at dksX10_isSo_12 3 rfl rfl)
theorem dX10_isSo_289 : decode cX10_isSo 289 = .ok (.goto 4, 3) := dk_167 0 4 (dk_at dksX10_isSo_12 4 rfl rfl)
theorem dX10_isSo_292 : decode cX10_isSo 292 = .ok (.iconst 0, 1) := dk_3 (dk_at dksX10_isSo_12 7 rfl rfl)
theorem dX10_isSo_293 : decode cX10_isSo 293 = .ok (.ireturn, 1) := dk_172 (dk_at dksX10_isSo_12 8 rfl rfl)
theorem dn_X10_isSo : yX10_isSo.cls ≠ "java/lang/invoke/MethodHandle" ∧ yX10_isSo.cls ≠ "java/lang/invoke/VarHandle" ∧ (parseMethodDescriptor yX10_isSo.desc).map (fun d => d.parameters.length) = some 2 := by decide +kernel
noncomputable def B_X10_isSo (Rc : Int32 → Int32 → TM Bool) (p1 : Int32) (p2 : Int32) : TM Bool := TM.lv (464 + (4 * p1)) (fun v1 => TM.bind (tA 14 704 (v1 + 1)) (fun v2 => TM.bind (tA 14 704 (v1 + 2)) (fun v3 => TM.bind (tA 14 704 v1) (fun v4 => if v4 = 1 then TM.bind (Rc v2 p2) (fun v30 => TM.bind ((cond v30 (TM.pure false) (TM.pure true) : TM (Bool))) (fun u31 => TM.pure u31)) else if v4 = 2 then TM.bind (Rc v2 p2) (fun v27 => TM.bind ((cond v27 (TM.bind (Rc v3 p2) (fun v29 => cond v29 (TM.pure true) (TM.pure false))) (TM.pure false) : TM (Bool))) (fun u28 => TM.pure u28)) else if v4 = 3 then TM.bind (Rc v2 p2) (fun v24 => TM.bind ((cond v24 (TM.pure true) (TM.bind (Rc v3 p2) (fun v26 => cond v26 (TM.pure true) (TM.pure false))) : TM (Bool))) (fun u25 => TM.pure u25)) else if v4 = 4 then TM.bind (tA 43 10 p2) (fun v22 => TM.bind ((if v22 ≤ 0 then TM.pure false else TM.pure true : TM (Bool))) (fun u23 => TM.pure u23)) else if v4 = 5 then TM.bind (M_X10_of p2 4) (fun v20 => TM.bind (M_X10_isFit p2 v20) (fun v21 => TM.pure v21)) else if v4 = 6 then TM.bind (M_X10_isAt p2) (fun v19 => TM.pure v19) else if v4 = 7 then TM.bind ((if v2 = p2 then TM.pure false else TM.bind (M_X10_of p2 4) (fun v16 => TM.bind (M_X10_of v2 4) (fun v17 => TM.bind (M_X10_bite p2 v16 v2 v17) (fun v18 => cond v18 (TM.pure true) (TM.pure false)))) : TM (Bool))) (fun u15 => TM.pure u15) else TM.bind (tA 14 704 v1) (fun v10 => TM.bind (M_X10_valueOf v10 p2) (fun v11 => TM.bind (tA 14 704 (v1 + 3)) (fun v12 => TM.bind ((if v12 = 60 then if v3 ≤ v11 then TM.pure false else TM.pure true else TM.bind (tA 14 704 (v1 + 3)) (fun v14 => if v14 = 61 then if v11 = v3 then TM.pure true else TM.pure false else if v11 ≤ v3 then TM.pure false else TM.pure true) : TM (Bool))) (fun u13 => TM.pure u13))))))))
noncomputable def M_X10_isSo : Nat → Int32 → Int32 → TM Bool
  | 0 => fun _ _ => TM.fail
  | n + 1 => B_X10_isSo (M_X10_isSo n)
set_option maxHeartbeats 4000000 in
theorem ct_X10_isSo (G : gG) (am n : Nat) : ∀ (p1 : Int32) (p2 : Int32), gCtM G am yX10_isSo cX10_isSo 7 (some .boolean) (4 + n) (101 + n * 26) [.ref am, .int p1, .int p2] (M_X10_isSo n p1 p2) (fun x : Bool => some (.int (b2i x))) := by
  induction n with
  | zero =>
    intro p1 p2 hn ms r m2 hf
    cases hf
  | succ n ih =>
    intro p1 p2
    refine gCtM.of (by decide) (Nat.le_of_ble_eq_true rfl) (fun K hn ms ms' r hG X hK hd ho => ?_)
    subst hG
    have X : gX K cX10_isSo 7 "BitingDoorsModel" "isSo" (some .boolean) (4 + (n + 1)) (101 + (n + 1) * 26) := X
    show V K 7 (mkM am hn ms) 0 [(0, .ref am), (1, .int p1), (2, .int p2)] []
    have hd : B_X10_isSo (M_X10_isSo n) p1 p2 ms = some (r, ms') := hd
    unfold B_X10_isSo at hd
    refine v_sipush (v := 464) X dX10_isSo_0 (by decide) ?_
    refine v_iconst (v := 4) X dX10_isSo_3 (by decide) ?_
    refine v_iload_n X dX10_isSo_4 1 1 rfl rfl ?_
    refine v_imul X dX10_isSo_5 ?_
    refine v_iadd X dX10_isSo_6 ?_
    refine t_lvI hd (fun v1 hd => ?_)
    refine v_istore_n (lv2 := [(3, .int v1), (0, .ref am), (1, .int p1), (2, .int p2)]) X dX10_isSo_7 3 rfl (by decide) rfl ?_
    refine v_aload_n X dX10_isSo_8 1 0 rfl rfl ?_
    refine t_getA (j := 1) X rfl fl_X10_13 dX10_isSo_9 ?_
    refine v_iload_n X dX10_isSo_12 0 3 rfl rfl ?_
    refine v_iconst (v := 1) X dX10_isSo_13 (by decide) ?_
    refine v_iadd X dX10_isSo_14 ?_
    refine t_iald (j := 1) X hd rfl dX10_isSo_15 (fun v2 hd => ?_)
    refine v_istore (lv2 := [(4, .int v2), (3, .int v1), (0, .ref am), (1, .int p1), (2, .int p2)]) X dX10_isSo_16 (by decide) rfl ?_
    refine v_aload_n X dX10_isSo_18 2 0 rfl rfl ?_
    refine t_getA (j := 1) X rfl fl_X10_13 dX10_isSo_19 ?_
    refine v_iload_n X dX10_isSo_22 1 3 rfl rfl ?_
    refine v_iconst (v := 2) X dX10_isSo_23 (by decide) ?_
    refine v_iadd X dX10_isSo_24 ?_
    refine t_iald (j := 1) X hd rfl dX10_isSo_25 (fun v3 hd => ?_)
    refine v_istore (lv2 := [(5, .int v3), (4, .int v2), (3, .int v1), (0, .ref am), (1, .int p1), (2, .int p2)]) X dX10_isSo_26 (by decide) rfl ?_
    refine v_aload_n X dX10_isSo_28 3 0 rfl rfl ?_
    refine t_getA (j := 1) X rfl fl_X10_13 dX10_isSo_29 ?_
    refine v_iload_n X dX10_isSo_32 2 3 rfl rfl ?_
    refine t_iald (j := 1) X hd rfl dX10_isSo_33 (fun v4 hd => ?_)
    by_cases q1 : v4 = 1
    · have hd := Tite_t q1 hd
      refine v_tableIn (k := 1) (off := 42) (tgt := 76) X dX10_isSo_34 q1 (by decide) (by decide) rfl (by decide) ?_
      refine v_aload_n X dX10_isSo_76 3 0 rfl rfl ?_
      refine v_iload X dX10_isSo_77 1 rfl ?_
      refine v_iload_n X dX10_isSo_79 5 2 rfl rfl ?_
      refine t_callV X hK hd (ih v2 p2) (lw_V q2320 q2322 qs106 q120 q2323) ⟨rfl, dn_X10_isSo⟩ rfl ⟨by omega, by omega⟩ rfl (Nat.le_of_ble_eq_true rfl) dX10_isSo_80 (fun v30 ms hd => ?_)
      show V K 7 (mkM am hn ms) 83 [(5, .int v3), (4, .int v2), (3, .int v1), (0, .ref am), (1, .int p1), (2, .int p2)] [.int (b2i v30)]
      obtain ⟨u31, m1, hd, hd2⟩ := TM.bind_some hd
      have KJ : V K 7 (mkM am hn m1) 91 [] [.int (b2i u31)] := by
        clear hd
        have hd := hd2
        exact t_zret X hK hd rfl ho dX10_isSo_91
      clear hd2
      refine v_ifZ_ne (tgt := 90) X dX10_isSo_83 (by decide) (fun q => ?_) (fun q => ?_)
      · have hd := Tcnd_t q hd
        refine v_iconst (v := 0) X dX10_isSo_90 (by decide) ?_
        exact v_loc [] rfl (t_at (P := fun (u31 : Bool) m => V K 7 (mkM am hn m) 91 [] [.int (b2i u31)]) hd KJ)
      · have hd := Tcnd_f q hd
        refine v_iconst (v := 1) X dX10_isSo_86 (by decide) ?_
        refine v_goto (tgt := 91) X dX10_isSo_87 (by decide) ?_
        exact v_loc [] rfl (t_at (P := fun (u31 : Bool) m => V K 7 (mkM am hn m) 91 [] [.int (b2i u31)]) hd KJ)
    · have hd := Tite_f q1 hd
      by_cases q2 : v4 = 2
      · have hd := Tite_t q2 hd
        refine v_tableIn (k := 2) (off := 58) (tgt := 92) X dX10_isSo_34 q2 (by decide) (by decide) rfl (by decide) ?_
        refine v_aload_n X dX10_isSo_92 3 0 rfl rfl ?_
        refine v_iload X dX10_isSo_93 1 rfl ?_
        refine v_iload_n X dX10_isSo_95 5 2 rfl rfl ?_
        refine t_callV X hK hd (ih v2 p2) (lw_V q2320 q2322 qs106 q120 q2323) ⟨rfl, dn_X10_isSo⟩ rfl ⟨by omega, by omega⟩ rfl (Nat.le_of_ble_eq_true rfl) dX10_isSo_96 (fun v27 ms hd => ?_)
        show V K 7 (mkM am hn ms) 99 [(5, .int v3), (4, .int v2), (3, .int v1), (0, .ref am), (1, .int p1), (2, .int p2)] [.int (b2i v27)]
        obtain ⟨u28, m1, hd, hd2⟩ := TM.bind_some hd
        have KJ : V K 7 (mkM am hn m1) 117 [] [.int (b2i u28)] := by
          clear hd
          have hd := hd2
          exact t_zret X hK hd rfl ho dX10_isSo_117
        clear hd2
        refine v_ifZ_eq (tgt := 116) X dX10_isSo_99 (by decide) (fun q => ?_) (fun q => ?_)
        · have hd := Tcnd_f q hd
          refine v_iconst (v := 0) X dX10_isSo_116 (by decide) ?_
          exact v_loc [] rfl (t_at (P := fun (u28 : Bool) m => V K 7 (mkM am hn m) 117 [] [.int (b2i u28)]) hd KJ)
        · have hd := Tcnd_t q hd
          refine v_aload_n X dX10_isSo_102 3 0 rfl rfl ?_
          refine v_iload X dX10_isSo_103 0 rfl ?_
          refine v_iload_n X dX10_isSo_105 5 2 rfl rfl ?_
          refine t_callV X hK hd (ih v3 p2) (lw_V q2320 q2322 qs106 q120 q2323) ⟨rfl, dn_X10_isSo⟩ rfl ⟨by omega, by omega⟩ rfl (Nat.le_of_ble_eq_true rfl) dX10_isSo_106 (fun v29 ms hd => ?_)
          show V K 7 (mkM am hn ms) 109 [(5, .int v3), (4, .int v2), (3, .int v1), (0, .ref am), (1, .int p1), (2, .int p2)] [.int (b2i v29)]
          refine v_ifZ_eq (tgt := 116) X dX10_isSo_109 (by decide) (fun q => ?_) (fun q => ?_)
          · have hd := Tcnd_f q hd
            refine v_iconst (v := 0) X dX10_isSo_116 (by decide) ?_
            exact v_loc [] rfl (t_at (P := fun (u28 : Bool) m => V K 7 (mkM am hn m) 117 [] [.int (b2i u28)]) hd KJ)
          · have hd := Tcnd_t q hd
            refine v_iconst (v := 1) X dX10_isSo_112 (by decide) ?_
            refine v_goto (tgt := 117) X dX10_isSo_113 (by decide) ?_
            exact v_loc [] rfl (t_at (P := fun (u28 : Bool) m => V K 7 (mkM am hn m) 117 [] [.int (b2i u28)]) hd KJ)
      · have hd := Tite_f q2 hd
        by_cases q3 : v4 = 3
        · have hd := Tite_t q3 hd
          refine v_tableIn (k := 3) (off := 84) (tgt := 118) X dX10_isSo_34 q3 (by decide) (by decide) rfl (by decide) ?_
          refine v_aload_n X dX10_isSo_118 3 0 rfl rfl ?_
          refine v_iload X dX10_isSo_119 1 rfl ?_
          refine v_iload_n X dX10_isSo_121 5 2 rfl rfl ?_
          refine t_callV X hK hd (ih v2 p2) (lw_V q2320 q2322 qs106 q120 q2323) ⟨rfl, dn_X10_isSo⟩ rfl ⟨by omega, by omega⟩ rfl (Nat.le_of_ble_eq_true rfl) dX10_isSo_122 (fun v24 ms hd => ?_)
          show V K 7 (mkM am hn ms) 125 [(5, .int v3), (4, .int v2), (3, .int v1), (0, .ref am), (1, .int p1), (2, .int p2)] [.int (b2i v24)]
          obtain ⟨u25, m1, hd, hd2⟩ := TM.bind_some hd
          have KJ : V K 7 (mkM am hn m1) 143 [] [.int (b2i u25)] := by
            clear hd
            have hd := hd2
            exact t_zret X hK hd rfl ho dX10_isSo_143
          clear hd2
          refine v_ifZ_ne (tgt := 138) X dX10_isSo_125 (by decide) (fun q => ?_) (fun q => ?_)
          · have hd := Tcnd_t q hd
            refine v_iconst (v := 1) X dX10_isSo_138 (by decide) ?_
            refine v_goto (tgt := 143) X dX10_isSo_139 (by decide) ?_
            exact v_loc [] rfl (t_at (P := fun (u25 : Bool) m => V K 7 (mkM am hn m) 143 [] [.int (b2i u25)]) hd KJ)
          · have hd := Tcnd_f q hd
            refine v_aload_n X dX10_isSo_128 3 0 rfl rfl ?_
            refine v_iload X dX10_isSo_129 0 rfl ?_
            refine v_iload_n X dX10_isSo_131 5 2 rfl rfl ?_
            refine t_callV X hK hd (ih v3 p2) (lw_V q2320 q2322 qs106 q120 q2323) ⟨rfl, dn_X10_isSo⟩ rfl ⟨by omega, by omega⟩ rfl (Nat.le_of_ble_eq_true rfl) dX10_isSo_132 (fun v26 ms hd => ?_)
            show V K 7 (mkM am hn ms) 135 [(5, .int v3), (4, .int v2), (3, .int v1), (0, .ref am), (1, .int p1), (2, .int p2)] [.int (b2i v26)]
            refine v_ifZ_eq (tgt := 142) X dX10_isSo_135 (by decide) (fun q => ?_) (fun q => ?_)
            · have hd := Tcnd_f q hd
              refine v_iconst (v := 0) X dX10_isSo_142 (by decide) ?_
              exact v_loc [] rfl (t_at (P := fun (u25 : Bool) m => V K 7 (mkM am hn m) 143 [] [.int (b2i u25)]) hd KJ)
            · have hd := Tcnd_t q hd
              refine v_iconst (v := 1) X dX10_isSo_138 (by decide) ?_
              refine v_goto (tgt := 143) X dX10_isSo_139 (by decide) ?_
              exact v_loc [] rfl (t_at (P := fun (u25 : Bool) m => V K 7 (mkM am hn m) 143 [] [.int (b2i u25)]) hd KJ)
        · have hd := Tite_f q3 hd
          by_cases q4 : v4 = 4
          · have hd := Tite_t q4 hd
            refine v_tableIn (k := 4) (off := 110) (tgt := 144) X dX10_isSo_34 q4 (by decide) (by decide) rfl (by decide) ?_
            refine v_aload_n X dX10_isSo_144 3 0 rfl rfl ?_
            refine t_getA (j := 22) X rfl fl_X10_78 dX10_isSo_145 ?_
            refine v_iload_n X dX10_isSo_148 5 2 rfl rfl ?_
            refine t_iald (j := 22) X hd rfl dX10_isSo_149 (fun v22 hd => ?_)
            obtain ⟨u23, m1, hd, hd2⟩ := TM.bind_some hd
            have KJ : V K 7 (mkM am hn m1) 158 [] [.int (b2i u23)] := by
              clear hd
              have hd := hd2
              exact t_zret X hK hd rfl ho dX10_isSo_158
            clear hd2
            refine v_if_le (tgt := 157) X dX10_isSo_150 (by decide) (fun q => ?_) (fun q => ?_)
            · have hd := Tite_t q hd
              refine v_iconst (v := 0) X dX10_isSo_157 (by decide) ?_
              exact v_loc [] rfl (t_at (P := fun (u23 : Bool) m => V K 7 (mkM am hn m) 158 [] [.int (b2i u23)]) hd KJ)
            · have hd := Tite_f q hd
              refine v_iconst (v := 1) X dX10_isSo_153 (by decide) ?_
              refine v_goto (tgt := 158) X dX10_isSo_154 (by decide) ?_
              exact v_loc [] rfl (t_at (P := fun (u23 : Bool) m => V K 7 (mkM am hn m) 158 [] [.int (b2i u23)]) hd KJ)
          · have hd := Tite_f q4 hd
            by_cases q5 : v4 = 5
            · have hd := Tite_t q5 hd
              refine v_tableIn (k := 5) (off := 125) (tgt := 159) X dX10_isSo_34 q5 (by decide) (by decide) rfl (by decide) ?_
              refine v_aload_n X dX10_isSo_159 3 0 rfl rfl ?_
              refine v_iload_n X dX10_isSo_160 5 2 rfl rfl ?_
              refine v_aload_n X dX10_isSo_161 3 0 rfl rfl ?_
              refine v_iload_n X dX10_isSo_162 5 2 rfl rfl ?_
              refine v_iconst (v := 4) X dX10_isSo_163 (by decide) ?_
              refine t_callV X hK hd (ct_X10_of _ am p2 4) (lw_V q1994 q1996 qs59 q120 q1997) ⟨rfl, dn_X10_of⟩ rfl ⟨by omega, by omega⟩ rfl (Nat.le_of_ble_eq_true rfl) dX10_isSo_164 (fun v20 ms hd => ?_)
              show V K 7 (mkM am hn ms) 167 [(5, .int v3), (4, .int v2), (3, .int v1), (0, .ref am), (1, .int p1), (2, .int p2)] [.int v20, .int p2, .ref am]
              refine t_callV X hK hd (ct_X10_isFit _ am p2 v20) (lw_V q2022 q2024 qs63 q120 q2025) ⟨rfl, dn_X10_isFit⟩ rfl ⟨by omega, by omega⟩ rfl (Nat.le_of_ble_eq_true rfl) dX10_isSo_167 (fun v21 ms hd => ?_)
              show V K 7 (mkM am hn ms) 170 [(5, .int v3), (4, .int v2), (3, .int v1), (0, .ref am), (1, .int p1), (2, .int p2)] [.int (b2i v21)]
              exact t_zret X hK hd rfl ho dX10_isSo_170
            · have hd := Tite_f q5 hd
              by_cases q6 : v4 = 6
              · have hd := Tite_t q6 hd
                refine v_tableIn (k := 6) (off := 137) (tgt := 171) X dX10_isSo_34 q6 (by decide) (by decide) rfl (by decide) ?_
                refine v_aload_n X dX10_isSo_171 3 0 rfl rfl ?_
                refine v_iload_n X dX10_isSo_172 5 2 rfl rfl ?_
                refine t_callV X hK hd (ct_X10_isAt _ am p2) (lw_V q2176 q2178 qs83 q120 q2179) ⟨rfl, dn_X10_isAt⟩ rfl ⟨by omega, by omega⟩ rfl (Nat.le_of_ble_eq_true rfl) dX10_isSo_173 (fun v19 ms hd => ?_)
                show V K 7 (mkM am hn ms) 176 [(5, .int v3), (4, .int v2), (3, .int v1), (0, .ref am), (1, .int p1), (2, .int p2)] [.int (b2i v19)]
                exact t_zret X hK hd rfl ho dX10_isSo_176
              · have hd := Tite_f q6 hd
                by_cases q7 : v4 = 7
                · have hd := Tite_t q7 hd
                  refine v_tableIn (k := 7) (off := 143) (tgt := 177) X dX10_isSo_34 q7 (by decide) (by decide) rfl (by decide) ?_
                  refine v_iload X dX10_isSo_177 1 rfl ?_
                  refine v_iload_n X dX10_isSo_179 5 2 rfl rfl ?_
                  obtain ⟨u15, m1, hd, hd2⟩ := TM.bind_some hd
                  have KJ : V K 7 (mkM am hn m1) 211 [] [.int (b2i u15)] := by
                    clear hd
                    have hd := hd2
                    exact t_zret X hK hd rfl ho dX10_isSo_211
                  clear hd2
                  refine v_icmp_eq (tgt := 210) X dX10_isSo_180 (by decide) (fun q => ?_) (fun q => ?_)
                  · have hd := Tite_t q hd
                    refine v_iconst (v := 0) X dX10_isSo_210 (by decide) ?_
                    exact v_loc [] rfl (t_at (P := fun (u15 : Bool) m => V K 7 (mkM am hn m) 211 [] [.int (b2i u15)]) hd KJ)
                  · have hd := Tite_f q hd
                    refine v_aload_n X dX10_isSo_183 3 0 rfl rfl ?_
                    refine v_iload_n X dX10_isSo_184 5 2 rfl rfl ?_
                    refine v_aload_n X dX10_isSo_185 3 0 rfl rfl ?_
                    refine v_iload_n X dX10_isSo_186 5 2 rfl rfl ?_
                    refine v_iconst (v := 4) X dX10_isSo_187 (by decide) ?_
                    refine t_callV X hK hd (ct_X10_of _ am p2 4) (lw_V q1994 q1996 qs59 q120 q1997) ⟨rfl, dn_X10_of⟩ rfl ⟨by omega, by omega⟩ rfl (Nat.le_of_ble_eq_true rfl) dX10_isSo_188 (fun v16 ms hd => ?_)
                    show V K 7 (mkM am hn ms) 191 [(5, .int v3), (4, .int v2), (3, .int v1), (0, .ref am), (1, .int p1), (2, .int p2)] [.int v16, .int p2, .ref am]
                    refine v_iload X dX10_isSo_191 1 rfl ?_
                    refine v_aload_n X dX10_isSo_193 3 0 rfl rfl ?_
                    refine v_iload X dX10_isSo_194 1 rfl ?_
                    refine v_iconst (v := 4) X dX10_isSo_196 (by decide) ?_
                    refine t_callV X hK hd (ct_X10_of _ am v2 4) (lw_V q1994 q1996 qs59 q120 q1997) ⟨rfl, dn_X10_of⟩ rfl ⟨by omega, by omega⟩ rfl (Nat.le_of_ble_eq_true rfl) dX10_isSo_197 (fun v17 ms hd => ?_)
                    show V K 7 (mkM am hn ms) 200 [(5, .int v3), (4, .int v2), (3, .int v1), (0, .ref am), (1, .int p1), (2, .int p2)] [.int v17, .int v2, .int v16, .int p2, .ref am]
                    refine t_callV X hK hd (ct_X10_bite _ am p2 v16 v2 v17) (lw_V q2049 q2051 qs67 q120 q2052) ⟨rfl, dn_X10_bite⟩ rfl ⟨by omega, by omega⟩ rfl (Nat.le_of_ble_eq_true rfl) dX10_isSo_200 (fun v18 ms hd => ?_)
                    show V K 7 (mkM am hn ms) 203 [(5, .int v3), (4, .int v2), (3, .int v1), (0, .ref am), (1, .int p1), (2, .int p2)] [.int (b2i v18)]
                    refine v_ifZ_eq (tgt := 210) X dX10_isSo_203 (by decide) (fun q => ?_) (fun q => ?_)
                    · have hd := Tcnd_f q hd
                      refine v_iconst (v := 0) X dX10_isSo_210 (by decide) ?_
                      exact v_loc [] rfl (t_at (P := fun (u15 : Bool) m => V K 7 (mkM am hn m) 211 [] [.int (b2i u15)]) hd KJ)
                    · have hd := Tcnd_t q hd
                      refine v_iconst (v := 1) X dX10_isSo_206 (by decide) ?_
                      refine v_goto (tgt := 211) X dX10_isSo_207 (by decide) ?_
                      exact v_loc [] rfl (t_at (P := fun (u15 : Bool) m => V K 7 (mkM am hn m) 211 [] [.int (b2i u15)]) hd KJ)
                · have hd := Tite_f q7 hd
                  have eq1 := lv_neT q1 (k := 1) (a := 1) (by decide)
                  have eq2 := lv_neT q2 (k := 2) (a := 2) (by decide)
                  have eq3 := lv_neT q3 (k := 3) (a := 3) (by decide)
                  have eq4 := lv_neT q4 (k := 4) (a := 4) (by decide)
                  have eq5 := lv_neT q5 (k := 5) (a := 5) (by decide)
                  have eq6 := lv_neT q6 (k := 6) (a := 6) (by decide)
                  have eq7 := lv_neT q7 (k := 7) (a := 7) (by decide)
                  refine v_tableOut (tgt := 212) X dX10_isSo_34 (by omega) (by decide) ?_
                  refine v_aload_n X dX10_isSo_212 3 0 rfl rfl ?_
                  refine v_aload_n X dX10_isSo_213 3 0 rfl rfl ?_
                  refine t_getA (j := 1) X rfl fl_X10_13 dX10_isSo_214 ?_
                  refine v_iload_n X dX10_isSo_217 2 3 rfl rfl ?_
                  refine t_iald (j := 1) X hd rfl dX10_isSo_218 (fun v10 hd => ?_)
                  refine v_iload_n X dX10_isSo_219 5 2 rfl rfl ?_
                  refine t_callV X hK hd (ct_X10_valueOf _ am v10 p2) (lw_V q2324 q2326 qs107 q120 q2327) ⟨rfl, dn_X10_valueOf⟩ rfl ⟨by omega, by omega⟩ rfl (Nat.le_of_ble_eq_true rfl) dX10_isSo_220 (fun v11 ms hd => ?_)
                  show V K 7 (mkM am hn ms) 223 [(5, .int v3), (4, .int v2), (3, .int v1), (0, .ref am), (1, .int p1), (2, .int p2)] [.int v11]
                  refine v_istore (lv2 := [(6, .int v11), (5, .int v3), (4, .int v2), (3, .int v1), (0, .ref am), (1, .int p1), (2, .int p2)]) X dX10_isSo_223 (by decide) rfl ?_
                  refine v_aload_n X dX10_isSo_225 4 0 rfl rfl ?_
                  refine t_getA (j := 1) X rfl fl_X10_13 dX10_isSo_226 ?_
                  refine v_iload_n X dX10_isSo_229 3 3 rfl rfl ?_
                  refine v_iconst (v := 3) X dX10_isSo_230 (by decide) ?_
                  refine v_iadd X dX10_isSo_231 ?_
                  refine t_iald (j := 1) X hd rfl dX10_isSo_232 (fun v12 hd => ?_)
                  refine v_bipush (v := 60) X dX10_isSo_233 (by decide) ?_
                  obtain ⟨u13, m1, hd, hd2⟩ := TM.bind_some hd
                  have KJ : V K 7 (mkM am hn m1) 293 [] [.int (b2i u13)] := by
                    clear hd
                    have hd := hd2
                    exact t_zret X hK hd rfl ho dX10_isSo_293
                  clear hd2
                  refine v_icmp_ne (tgt := 253) X dX10_isSo_235 (by decide) (fun q => ?_) (fun q => ?_)
                  · have hd := Tite_f q hd
                    refine v_aload_n X dX10_isSo_253 4 0 rfl rfl ?_
                    refine t_getA (j := 1) X rfl fl_X10_13 dX10_isSo_254 ?_
                    refine v_iload_n X dX10_isSo_257 3 3 rfl rfl ?_
                    refine v_iconst (v := 3) X dX10_isSo_258 (by decide) ?_
                    refine v_iadd X dX10_isSo_259 ?_
                    refine t_iald (j := 1) X hd rfl dX10_isSo_260 (fun v14 hd => ?_)
                    refine v_bipush (v := 61) X dX10_isSo_261 (by decide) ?_
                    refine v_icmp_ne (tgt := 281) X dX10_isSo_263 (by decide) (fun q => ?_) (fun q => ?_)
                    · have hd := Tite_f q hd
                      refine v_iload X dX10_isSo_281 0 rfl ?_
                      refine v_iload X dX10_isSo_283 1 rfl ?_
                      refine v_icmp_le (tgt := 292) X dX10_isSo_285 (by decide) (fun q => ?_) (fun q => ?_)
                      · have hd := Tite_t q hd
                        refine v_iconst (v := 0) X dX10_isSo_292 (by decide) ?_
                        exact v_loc [] rfl (t_at (P := fun (u13 : Bool) m => V K 7 (mkM am hn m) 293 [] [.int (b2i u13)]) hd KJ)
                      · have hd := Tite_f q hd
                        refine v_iconst (v := 1) X dX10_isSo_288 (by decide) ?_
                        refine v_goto (tgt := 293) X dX10_isSo_289 (by decide) ?_
                        exact v_loc [] rfl (t_at (P := fun (u13 : Bool) m => V K 7 (mkM am hn m) 293 [] [.int (b2i u13)]) hd KJ)
                    · have hd := Tite_t q hd
                      refine v_iload X dX10_isSo_266 0 rfl ?_
                      refine v_iload X dX10_isSo_268 1 rfl ?_
                      refine v_icmp_ne (tgt := 277) X dX10_isSo_270 (by decide) (fun q => ?_) (fun q => ?_)
                      · have hd := Tite_f q hd
                        refine v_iconst (v := 0) X dX10_isSo_277 (by decide) ?_
                        refine v_goto (tgt := 293) X dX10_isSo_278 (by decide) ?_
                        exact v_loc [] rfl (t_at (P := fun (u13 : Bool) m => V K 7 (mkM am hn m) 293 [] [.int (b2i u13)]) hd KJ)
                      · have hd := Tite_t q hd
                        refine v_iconst (v := 1) X dX10_isSo_273 (by decide) ?_
                        refine v_goto (tgt := 293) X dX10_isSo_274 (by decide) ?_
                        exact v_loc [] rfl (t_at (P := fun (u13 : Bool) m => V K 7 (mkM am hn m) 293 [] [.int (b2i u13)]) hd KJ)
                  · have hd := Tite_t q hd
                    refine v_iload X dX10_isSo_238 0 rfl ?_
                    refine v_iload X dX10_isSo_240 1 rfl ?_
                    refine v_icmp_ge (tgt := 249) X dX10_isSo_242 (by decide) (fun q => ?_) (fun q => ?_)
                    · have hd := Tite_t q hd
                      refine v_iconst (v := 0) X dX10_isSo_249 (by decide) ?_
                      refine v_goto (tgt := 293) X dX10_isSo_250 (by decide) ?_
                      exact v_loc [] rfl (t_at (P := fun (u13 : Bool) m => V K 7 (mkM am hn m) 293 [] [.int (b2i u13)]) hd KJ)
                    · have hd := Tite_f q hd
                      refine v_iconst (v := 1) X dX10_isSo_245 (by decide) ?_
                      refine v_goto (tgt := 293) X dX10_isSo_246 (by decide) ?_
                      exact v_loc [] rfl (t_at (P := fun (u13 : Bool) m => V K 7 (mkM am hn m) 293 [] [.int (b2i u13)]) hd KJ)
