set_option maxRecDepth 100000
def dkwX10_minute_0 : List UInt8 := [42, 27, 182, 1, 119, 61, 28, 154, 0, 8, 42, 182, 1, 122, 87, 28, 172]
abbrev dktX10_minute_0 : List UInt8 := dkwX10_minute_0 ++ []
theorem dksX10_minute_0 : cX10_minute.data.toList.drop 0 = dktX10_minute_0 := by decide +kernel
theorem dX10_minute_0 : decode cX10_minute 0 = .ok (.aload_n 0, 1) := dk_42 (dk_at dksX10_minute_0 0 rfl rfl)
theorem dX10_minute_1 : decode cX10_minute 1 = .ok (.iload_n 1, 1) := dk_27 (dk_at dksX10_minute_0 1 rfl rfl)
theorem dX10_minute_2 : decode cX10_minute 2 = .ok (.invokevirtual 375, 3) := dk_182 1 119 (dk_at dksX10_minute_0 2 rfl rfl)
theorem dX10_minute_5 : decode cX10_minute 5 = .ok (.istore_n 2, 1) := dk_61 (dk_at dksX10_minute_0 5 rfl rfl)
theorem dX10_minute_6 : decode cX10_minute 6 = .ok (.iload_n 2, 1) := dk_28 (dk_at dksX10_minute_0 6 rfl rfl)
theorem dX10_minute_7 : decode cX10_minute 7 = .ok (.ifCond .ne 8, 3) := dk_154 0 8 (dk_at dksX10_minute_0 7 rfl rfl)
theorem dX10_minute_10 : decode cX10_minute 10 = .ok (.aload_n 0, 1) := dk_42 (dk_at dksX10_minute_0 10 rfl rfl)
theorem dX10_minute_11 : decode cX10_minute 11 = .ok (.invokevirtual 378, 3) := dk_182 1 122 (dk_at dksX10_minute_0 11 rfl rfl)
theorem dX10_minute_14 : decode cX10_minute 14 = .ok (.pop, 1) := dk_87 (dk_at dksX10_minute_0 14 rfl rfl)
theorem dX10_minute_15 : decode cX10_minute 15 = .ok (.iload_n 2, 1) := dk_28 (dk_at dksX10_minute_0 15 rfl rfl)
theorem dX10_minute_16 : decode cX10_minute 16 = .ok (.ireturn, 1) := dk_172 (dk_at dksX10_minute_0 16 rfl rfl)
theorem dn_X10_minute : yX10_minute.cls ≠ "java/lang/invoke/MethodHandle" ∧ yX10_minute.cls ≠ "java/lang/invoke/VarHandle" ∧ (parseMethodDescriptor yX10_minute.desc).map (fun d => d.parameters.length) = some 1 := by decide +kernel
noncomputable def M_X10_minute (p1 : Int32) : TM Int32 := TM.bind (M_X10_tries p1) (fun v1 => TM.bind ((if v1 = 0 then TM.bind (M_X10_blows) (fun v3 => TM.pure ()) else TM.pure () : TM (Unit))) (fun u2 => TM.pure v1))
set_option maxHeartbeats 4000000 in
theorem ct_X10_minute (G : gG) (am : Nat) (p1 : Int32) : gCtM G am yX10_minute cX10_minute 3 (some .int) 5 128 [.ref am, .int p1] (M_X10_minute p1) (fun x : Int32 => some (.int x)) := by
  refine gCtM.of (by decide) (Nat.le_of_ble_eq_true rfl) (fun K hn ms ms' r hG X hK hd ho => ?_)
  subst hG
  have X : gX K cX10_minute 3 "BitingDoorsModel" "minute" (some .int) 5 128 := X
  show V K 3 (mkM am hn ms) 0 [(0, .ref am), (1, .int p1)] []
  unfold M_X10_minute at hd
  refine v_aload_n X dX10_minute_0 0 0 rfl rfl ?_
  refine v_iload_n X dX10_minute_1 1 1 rfl rfl ?_
  refine t_callV X hK hd (ct_X10_tries _ am p1) (lw_V q2172 q2174 qs82 q120 q2175) ⟨rfl, dn_X10_tries⟩ rfl ⟨by decide, by decide⟩ rfl (Nat.le_of_ble_eq_true rfl) dX10_minute_2 (fun v1 ms hd => ?_)
  show V K 3 (mkM am hn ms) 5 [(0, .ref am), (1, .int p1)] [.int v1]
  refine v_istore_n (lv2 := [(2, .int v1), (0, .ref am), (1, .int p1)]) X dX10_minute_5 2 rfl (by decide) rfl ?_
  refine v_iload_n X dX10_minute_6 0 2 rfl rfl ?_
  obtain ⟨u2, m1, hd, hd2⟩ := TM.bind_some hd
  have KJ : V K 3 (mkM am hn m1) 15 [(2, .int v1)] [] := by
    clear hd
    have hd := hd2
    refine v_iload_n X dX10_minute_15 0 2 rfl rfl ?_
    exact t_iret X hK hd ho dX10_minute_16
  clear hd2
  refine v_if_ne (tgt := 15) X dX10_minute_7 (by decide) (fun q => ?_) (fun q => ?_)
  · have hd := Tite_f q hd
    exact v_loc [0] rfl (t_at (P := fun (u2 : Unit) m => V K 3 (mkM am hn m) 15 [(2, .int v1)] []) hd KJ)
  · have hd := Tite_t q hd
    refine v_aload_n X dX10_minute_10 1 0 rfl rfl ?_
    refine t_callV X hK hd (ct_X10_blows _ am) (lw_V q2188 q2190 qs86 q120 q2191) ⟨rfl, dn_X10_blows⟩ rfl ⟨by decide, by decide⟩ rfl (Nat.le_of_ble_eq_true rfl) dX10_minute_11 (fun v3 ms hd => ?_)
    show V K 3 (mkM am hn ms) 14 [(2, .int v1), (0, .ref am), (1, .int p1)] [.int v3]
    refine v_pop X dX10_minute_14 rfl ?_
    exact v_loc [0] rfl (t_at (P := fun (u2 : Unit) m => V K 3 (mkM am hn m) 15 [(2, .int v1)] []) hd KJ)
def dkwX10_doAct_9 : List UInt8 := [132, 5, 1, 167, 255, 169, 3, 172]
abbrev dktX10_doAct_9 : List UInt8 := dkwX10_doAct_9 ++ []
def dkwX10_doAct_8 : List UInt8 := [96, 182, 1, 131, 54, 7, 21, 7, 153, 0, 6, 21, 7, 172, 42, 89, 180, 1, 143, 4, 96, 181, 1, 143]
abbrev dktX10_doAct_8 : List UInt8 := dkwX10_doAct_8 ++ dktX10_doAct_9
def dkwX10_doAct_7 : List UInt8 := [161, 0, 7, 4, 167, 0, 4, 3, 54, 6, 42, 21, 6, 153, 0, 7, 2, 167, 0, 8, 5, 28, 104, 27]
abbrev dktX10_doAct_7 : List UInt8 := dkwX10_doAct_7 ++ dktX10_doAct_8
def dkwX10_doAct_6 : List UInt8 := [42, 180, 0, 78, 28, 46, 154, 0, 7, 4, 167, 0, 22, 3, 167, 0, 18, 42, 180, 0, 78, 28, 46, 29]
abbrev dktX10_doAct_6 : List UInt8 := dkwX10_doAct_6 ++ dktX10_doAct_7
def dkwX10_doAct_5 : List UInt8 := [153, 0, 7, 8, 167, 0, 4, 7, 172, 3, 54, 5, 21, 5, 21, 4, 162, 0, 86, 27, 8, 160, 0, 20]
abbrev dktX10_doAct_5 : List UInt8 := dkwX10_doAct_5 ++ dktX10_doAct_6
def dkwX10_doAct_4 : List UInt8 := [21, 4, 157, 0, 29, 42, 180, 1, 98, 2, 160, 0, 7, 4, 167, 0, 16, 42, 28, 182, 1, 110]
abbrev dktX10_doAct_4 : List UInt8 := dkwX10_doAct_4 ++ dktX10_doAct_5
def dkwX10_doAct_3 : List UInt8 := [8, 160, 0, 12, 42, 180, 0, 78, 28, 46, 167, 0, 11, 29, 42, 180, 0, 78, 28, 46, 100, 54, 4]
abbrev dktX10_doAct_3 : List UInt8 := dkwX10_doAct_3 ++ dktX10_doAct_4
def dkwX10_doAct_2 : List UInt8 := [180, 1, 143, 4, 96, 181, 1, 143, 132, 3, 1, 167, 255, 213, 3, 172, 42, 27, 28, 182, 1, 146, 62, 27]
abbrev dktX10_doAct_2 : List UInt8 := dkwX10_doAct_2 ++ dktX10_doAct_3
def dkwX10_doAct_1 : List UInt8 := [160, 0, 7, 2, 167, 0, 4, 27, 182, 1, 131, 54, 4, 21, 4, 153, 0, 6, 21, 4, 172, 42, 89]
abbrev dktX10_doAct_1 : List UInt8 := dkwX10_doAct_1 ++ dktX10_doAct_2
def dkwX10_doAct_0 : List UInt8 := [27, 7, 161, 0, 9, 27, 16, 6, 160, 0, 53, 3, 62, 29, 28, 162, 0, 44, 42, 27, 16, 6]
abbrev dktX10_doAct_0 : List UInt8 := dkwX10_doAct_0 ++ dktX10_doAct_1
theorem dksX10_doAct_0 : cX10_doAct.data.toList.drop 0 = dktX10_doAct_0 := by decide +kernel
theorem dksX10_doAct_1 : cX10_doAct.data.toList.drop 22 = dktX10_doAct_1 := dk_seg dksX10_doAct_0 22 rfl rfl
theorem dksX10_doAct_2 : cX10_doAct.data.toList.drop 45 = dktX10_doAct_2 := dk_seg dksX10_doAct_1 23 rfl rfl
theorem dksX10_doAct_3 : cX10_doAct.data.toList.drop 69 = dktX10_doAct_3 := dk_seg dksX10_doAct_2 24 rfl rfl
theorem dksX10_doAct_4 : cX10_doAct.data.toList.drop 92 = dktX10_doAct_4 := dk_seg dksX10_doAct_3 23 rfl rfl
theorem dksX10_doAct_5 : cX10_doAct.data.toList.drop 114 = dktX10_doAct_5 := dk_seg dksX10_doAct_4 22 rfl rfl
theorem dksX10_doAct_6 : cX10_doAct.data.toList.drop 138 = dktX10_doAct_6 := dk_seg dksX10_doAct_5 24 rfl rfl
theorem dksX10_doAct_7 : cX10_doAct.data.toList.drop 162 = dktX10_doAct_7 := dk_seg dksX10_doAct_6 24 rfl rfl
theorem dksX10_doAct_8 : cX10_doAct.data.toList.drop 186 = dktX10_doAct_8 := dk_seg dksX10_doAct_7 24 rfl rfl
theorem dksX10_doAct_9 : cX10_doAct.data.toList.drop 210 = dktX10_doAct_9 := dk_seg dksX10_doAct_8 24 rfl rfl
theorem dX10_doAct_0 : decode cX10_doAct 0 = .ok (.iload_n 1, 1) := dk_27 (dk_at dksX10_doAct_0 0 rfl rfl)
theorem dX10_doAct_1 : decode cX10_doAct 1 = .ok (.iconst 4, 1) := dk_7 (dk_at dksX10_doAct_0 1 rfl rfl)
theorem dX10_doAct_2 : decode cX10_doAct 2 = .ok (.if_icmp .lt 9, 3) := dk_161 0 9 (dk_at dksX10_doAct_0 2 rfl rfl)
theorem dX10_doAct_5 : decode cX10_doAct 5 = .ok (.iload_n 1, 1) := dk_27 (dk_at dksX10_doAct_0 5 rfl rfl)
theorem dX10_doAct_6 : decode cX10_doAct 6 = .ok (.bipush 6, 2) := dk_16 6 (dk_at dksX10_doAct_0 6 rfl rfl)
theorem dX10_doAct_8 : decode cX10_doAct 8 = .ok (.if_icmp .ne 53, 3) := dk_160 0 53 (dk_at dksX10_doAct_0 8 rfl rfl)
theorem dX10_doAct_11 : decode cX10_doAct 11 = .ok (.iconst 0, 1) := dk_3 (dk_at dksX10_doAct_0 11 rfl rfl)
theorem dX10_doAct_12 : decode cX10_doAct 12 = .ok (.istore_n 3, 1) := dk_62 (dk_at dksX10_doAct_0 12 rfl rfl)
theorem dX10_doAct_13 : decode cX10_doAct 13 = .ok (.iload_n 3, 1) := dk_29 (dk_at dksX10_doAct_0 13 rfl rfl)
theorem dX10_doAct_14 : decode cX10_doAct 14 = .ok (.iload_n 2, 1) := dk_28 (dk_at dksX10_doAct_0 14 rfl rfl)
theorem dX10_doAct_15 : decode cX10_doAct 15 = .ok (.if_icmp .ge 44, 3) := dk_162 0 44 (dk_at dksX10_doAct_0 15 rfl rfl)
theorem dX10_doAct_18 : decode cX10_doAct 18 = .ok (.aload_n 0, 1) := dk_42 (dk_at dksX10_doAct_0 18 rfl rfl)
theorem dX10_doAct_19 : decode cX10_doAct 19 = .ok (.iload_n 1, 1) := dk_27 (dk_at dksX10_doAct_0 19 rfl rfl)
theorem dX10_doAct_20 : decode cX10_doAct 20 = .ok (.bipush 6, 2) := dk_16 6 (dk_at dksX10_doAct_0 20 rfl rfl)
theorem dX10_doAct_22 : decode cX10_doAct 22 = .ok (.if_icmp .ne 7, 3) := dk_160 0 7 (dk_at dksX10_doAct_1 0 rfl rfl)
theorem dX10_doAct_25 : decode cX10_doAct 25 = .ok (.iconst (-1), 1) := dk_2 (dk_at dksX10_doAct_1 3 rfl rfl)
theorem dX10_doAct_26 : decode cX10_doAct 26 = .ok (.goto 4, 3) := dk_167 0 4 (dk_at dksX10_doAct_1 4 rfl rfl)
theorem dX10_doAct_29 : decode cX10_doAct 29 = .ok (.iload_n 1, 1) := dk_27 (dk_at dksX10_doAct_1 7 rfl rfl)
theorem dX10_doAct_30 : decode cX10_doAct 30 = .ok (.invokevirtual 387, 3) := dk_182 1 131 (dk_at dksX10_doAct_1 8 rfl rfl)
theorem dX10_doAct_33 : decode cX10_doAct 33 = .ok (.istore 4, 2) := dk_54 4 (dk_at dksX10_doAct_1 11 rfl rfl)
theorem dX10_doAct_35 : decode cX10_doAct 35 = .ok (.iload 4, 2) := dk_21 4 (dk_at dksX10_doAct_1 13 rfl rfl)
theorem dX10_doAct_37 : decode cX10_doAct 37 = .ok (.ifCond .eq 6, 3) := dk_153 0 6 (dk_at dksX10_doAct_1 15 rfl rfl)
theorem dX10_doAct_40 : decode cX10_doAct 40 = .ok (.iload 4, 2) := dk_21 4 (dk_at dksX10_doAct_1 18 rfl rfl)
theorem dX10_doAct_42 : decode cX10_doAct 42 = .ok (.ireturn, 1) := dk_172 (dk_at dksX10_doAct_1 20 rfl rfl)
theorem dX10_doAct_43 : decode cX10_doAct 43 = .ok (.aload_n 0, 1) := dk_42 (dk_at dksX10_doAct_1 21 rfl rfl)
theorem dX10_doAct_44 : decode cX10_doAct 44 = .ok (.dup, 1) := dk_89 (dk_at dksX10_doAct_1 22 rfl rfl)
theorem dX10_doAct_45 : decode cX10_doAct 45 = .ok (.getfield 399, 3) := dk_180 1 143 (dk_at dksX10_doAct_2 0 rfl rfl)
theorem dX10_doAct_48 : decode cX10_doAct 48 = .ok (.iconst 1, 1) := dk_4 (dk_at dksX10_doAct_2 3 rfl rfl)
theorem dX10_doAct_49 : decode cX10_doAct 49 = .ok (.iadd, 1) := dk_96 (dk_at dksX10_doAct_2 4 rfl rfl)
theorem dX10_doAct_50 : decode cX10_doAct 50 = .ok (.putfield 399, 3) := dk_181 1 143 (dk_at dksX10_doAct_2 5 rfl rfl)
theorem dX10_doAct_53 : decode cX10_doAct 53 = .ok (.iinc 3 1, 3) := dk_132 3 1 (dk_at dksX10_doAct_2 8 rfl rfl)
theorem dX10_doAct_56 : decode cX10_doAct 56 = .ok (.goto (-43), 3) := dk_167 255 213 (dk_at dksX10_doAct_2 11 rfl rfl)
theorem dX10_doAct_59 : decode cX10_doAct 59 = .ok (.iconst 0, 1) := dk_3 (dk_at dksX10_doAct_2 14 rfl rfl)
theorem dX10_doAct_60 : decode cX10_doAct 60 = .ok (.ireturn, 1) := dk_172 (dk_at dksX10_doAct_2 15 rfl rfl)
theorem dX10_doAct_61 : decode cX10_doAct 61 = .ok (.aload_n 0, 1) := dk_42 (dk_at dksX10_doAct_2 16 rfl rfl)
theorem dX10_doAct_62 : decode cX10_doAct 62 = .ok (.iload_n 1, 1) := dk_27 (dk_at dksX10_doAct_2 17 rfl rfl)
theorem dX10_doAct_63 : decode cX10_doAct 63 = .ok (.iload_n 2, 1) := dk_28 (dk_at dksX10_doAct_2 18 rfl rfl)
theorem dX10_doAct_64 : decode cX10_doAct 64 = .ok (.invokevirtual 402, 3) := dk_182 1 146 (dk_at dksX10_doAct_2 19 rfl rfl)
theorem dX10_doAct_67 : decode cX10_doAct 67 = .ok (.istore_n 3, 1) := dk_62 (dk_at dksX10_doAct_2 22 rfl rfl)
theorem dX10_doAct_68 : decode cX10_doAct 68 = .ok (.iload_n 1, 1) := dk_27 (dk_at dksX10_doAct_2 23 rfl rfl)
theorem dX10_doAct_69 : decode cX10_doAct 69 = .ok (.iconst 5, 1) := dk_8 (dk_at dksX10_doAct_3 0 rfl rfl)
theorem dX10_doAct_70 : decode cX10_doAct 70 = .ok (.if_icmp .ne 12, 3) := dk_160 0 12 (dk_at dksX10_doAct_3 1 rfl rfl)
theorem dX10_doAct_73 : decode cX10_doAct 73 = .ok (.aload_n 0, 1) := dk_42 (dk_at dksX10_doAct_3 4 rfl rfl)
theorem dX10_doAct_74 : decode cX10_doAct 74 = .ok (.getfield 78, 3) := dk_180 0 78 (dk_at dksX10_doAct_3 5 rfl rfl)
theorem dX10_doAct_77 : decode cX10_doAct 77 = .ok (.iload_n 2, 1) := dk_28 (dk_at dksX10_doAct_3 8 rfl rfl)
theorem dX10_doAct_78 : decode cX10_doAct 78 = .ok (.iaload, 1) := dk_46 (dk_at dksX10_doAct_3 9 rfl rfl)
theorem dX10_doAct_79 : decode cX10_doAct 79 = .ok (.goto 11, 3) := dk_167 0 11 (dk_at dksX10_doAct_3 10 rfl rfl)
theorem dX10_doAct_82 : decode cX10_doAct 82 = .ok (.iload_n 3, 1) := dk_29 (dk_at dksX10_doAct_3 13 rfl rfl)
theorem dX10_doAct_83 : decode cX10_doAct 83 = .ok (.aload_n 0, 1) := dk_42 (dk_at dksX10_doAct_3 14 rfl rfl)
theorem dX10_doAct_84 : decode cX10_doAct 84 = .ok (.getfield 78, 3) := dk_180 0 78 (dk_at dksX10_doAct_3 15 rfl rfl)
theorem dX10_doAct_87 : decode cX10_doAct 87 = .ok (.iload_n 2, 1) := dk_28 (dk_at dksX10_doAct_3 18 rfl rfl)
theorem dX10_doAct_88 : decode cX10_doAct 88 = .ok (.iaload, 1) := dk_46 (dk_at dksX10_doAct_3 19 rfl rfl)
theorem dX10_doAct_89 : decode cX10_doAct 89 = .ok (.isub, 1) := dk_100 (dk_at dksX10_doAct_3 20 rfl rfl)
theorem dX10_doAct_90 : decode cX10_doAct 90 = .ok (.istore 4, 2) := dk_54 4 (dk_at dksX10_doAct_3 21 rfl rfl)
theorem dX10_doAct_92 : decode cX10_doAct 92 = .ok (.iload 4, 2) := dk_21 4 (dk_at dksX10_doAct_4 0 rfl rfl)
theorem dX10_doAct_94 : decode cX10_doAct 94 = .ok (.ifCond .gt 29, 3) := dk_157 0 29 (dk_at dksX10_doAct_4 2 rfl rfl)
theorem dX10_doAct_97 : decode cX10_doAct 97 = .ok (.aload_n 0, 1) := dk_42 (dk_at dksX10_doAct_4 5 rfl rfl)
theorem dX10_doAct_98 : decode cX10_doAct 98 = .ok (.getfield 354, 3) := dk_180 1 98 (dk_at dksX10_doAct_4 6 rfl rfl)
theorem dX10_doAct_101 : decode cX10_doAct 101 = .ok (.iconst (-1), 1) := dk_2 (dk_at dksX10_doAct_4 9 rfl rfl)
theorem dX10_doAct_102 : decode cX10_doAct 102 = .ok (.if_icmp .ne 7, 3) := dk_160 0 7 (dk_at dksX10_doAct_4 10 rfl rfl)
theorem dX10_doAct_105 : decode cX10_doAct 105 = .ok (.iconst 1, 1) := dk_4 (dk_at dksX10_doAct_4 13 rfl rfl)
theorem dX10_doAct_106 : decode cX10_doAct 106 = .ok (.goto 16, 3) := dk_167 0 16 (dk_at dksX10_doAct_4 14 rfl rfl)
theorem dX10_doAct_109 : decode cX10_doAct 109 = .ok (.aload_n 0, 1) := dk_42 (dk_at dksX10_doAct_4 17 rfl rfl)
theorem dX10_doAct_110 : decode cX10_doAct 110 = .ok (.iload_n 2, 1) := dk_28 (dk_at dksX10_doAct_4 18 rfl rfl)
theorem dX10_doAct_111 : decode cX10_doAct 111 = .ok (.invokevirtual 366, 3) := dk_182 1 110 (dk_at dksX10_doAct_4 19 rfl rfl)
theorem dX10_doAct_114 : decode cX10_doAct 114 = .ok (.ifCond .eq 7, 3) := dk_153 0 7 (dk_at dksX10_doAct_5 0 rfl rfl)
theorem dX10_doAct_117 : decode cX10_doAct 117 = .ok (.iconst 5, 1) := dk_8 (dk_at dksX10_doAct_5 3 rfl rfl)
theorem dX10_doAct_118 : decode cX10_doAct 118 = .ok (.goto 4, 3) := dk_167 0 4 (dk_at dksX10_doAct_5 4 rfl rfl)
theorem dX10_doAct_121 : decode cX10_doAct 121 = .ok (.iconst 4, 1) := dk_7 (dk_at dksX10_doAct_5 7 rfl rfl)
theorem dX10_doAct_122 : decode cX10_doAct 122 = .ok (.ireturn, 1) := dk_172 (dk_at dksX10_doAct_5 8 rfl rfl)
theorem dX10_doAct_123 : decode cX10_doAct 123 = .ok (.iconst 0, 1) := dk_3 (dk_at dksX10_doAct_5 9 rfl rfl)
theorem dX10_doAct_124 : decode cX10_doAct 124 = .ok (.istore 5, 2) := dk_54 5 (dk_at dksX10_doAct_5 10 rfl rfl)
theorem dX10_doAct_126 : decode cX10_doAct 126 = .ok (.iload 5, 2) := dk_21 5 (dk_at dksX10_doAct_5 12 rfl rfl)
theorem dX10_doAct_128 : decode cX10_doAct 128 = .ok (.iload 4, 2) := dk_21 4 (dk_at dksX10_doAct_5 14 rfl rfl)
theorem dX10_doAct_130 : decode cX10_doAct 130 = .ok (.if_icmp .ge 86, 3) := dk_162 0 86 (dk_at dksX10_doAct_5 16 rfl rfl)
theorem dX10_doAct_133 : decode cX10_doAct 133 = .ok (.iload_n 1, 1) := dk_27 (dk_at dksX10_doAct_5 19 rfl rfl)
theorem dX10_doAct_134 : decode cX10_doAct 134 = .ok (.iconst 5, 1) := dk_8 (dk_at dksX10_doAct_5 20 rfl rfl)
theorem dX10_doAct_135 : decode cX10_doAct 135 = .ok (.if_icmp .ne 20, 3) := dk_160 0 20 (dk_at dksX10_doAct_5 21 rfl rfl)
theorem dX10_doAct_138 : decode cX10_doAct 138 = .ok (.aload_n 0, 1) := dk_42 (dk_at dksX10_doAct_6 0 rfl rfl)
theorem dX10_doAct_139 : decode cX10_doAct 139 = .ok (.getfield 78, 3) := dk_180 0 78 (dk_at dksX10_doAct_6 1 rfl rfl)
theorem dX10_doAct_142 : decode cX10_doAct 142 = .ok (.iload_n 2, 1) := dk_28 (dk_at dksX10_doAct_6 4 rfl rfl)
theorem dX10_doAct_143 : decode cX10_doAct 143 = .ok (.iaload, 1) := dk_46 (dk_at dksX10_doAct_6 5 rfl rfl)
theorem dX10_doAct_144 : decode cX10_doAct 144 = .ok (.ifCond .ne 7, 3) := dk_154 0 7 (dk_at dksX10_doAct_6 6 rfl rfl)
theorem dX10_doAct_147 : decode cX10_doAct 147 = .ok (.iconst 1, 1) := dk_4 (dk_at dksX10_doAct_6 9 rfl rfl)
theorem dX10_doAct_148 : decode cX10_doAct 148 = .ok (.goto 22, 3) := dk_167 0 22 (dk_at dksX10_doAct_6 10 rfl rfl)
theorem dX10_doAct_151 : decode cX10_doAct 151 = .ok (.iconst 0, 1) := dk_3 (dk_at dksX10_doAct_6 13 rfl rfl)
theorem dX10_doAct_152 : decode cX10_doAct 152 = .ok (.goto 18, 3) := dk_167 0 18 (dk_at dksX10_doAct_6 14 rfl rfl)
theorem dX10_doAct_155 : decode cX10_doAct 155 = .ok (.aload_n 0, 1) := dk_42 (dk_at dksX10_doAct_6 17 rfl rfl)
theorem dX10_doAct_156 : decode cX10_doAct 156 = .ok (.getfield 78, 3) := dk_180 0 78 (dk_at dksX10_doAct_6 18 rfl rfl)
theorem dX10_doAct_159 : decode cX10_doAct 159 = .ok (.iload_n 2, 1) := dk_28 (dk_at dksX10_doAct_6 21 rfl rfl)
theorem dX10_doAct_160 : decode cX10_doAct 160 = .ok (.iaload, 1) := dk_46 (dk_at dksX10_doAct_6 22 rfl rfl)
theorem dX10_doAct_161 : decode cX10_doAct 161 = .ok (.iload_n 3, 1) := dk_29 (dk_at dksX10_doAct_6 23 rfl rfl)
theorem dX10_doAct_162 : decode cX10_doAct 162 = .ok (.if_icmp .lt 7, 3) := dk_161 0 7 (dk_at dksX10_doAct_7 0 rfl rfl)
theorem dX10_doAct_165 : decode cX10_doAct 165 = .ok (.iconst 1, 1) := dk_4 (dk_at dksX10_doAct_7 3 rfl rfl)
theorem dX10_doAct_166 : decode cX10_doAct 166 = .ok (.goto 4, 3) := dk_167 0 4 (dk_at dksX10_doAct_7 4 rfl rfl)
theorem dX10_doAct_169 : decode cX10_doAct 169 = .ok (.iconst 0, 1) := dk_3 (dk_at dksX10_doAct_7 7 rfl rfl)
theorem dX10_doAct_170 : decode cX10_doAct 170 = .ok (.istore 6, 2) := dk_54 6 (dk_at dksX10_doAct_7 8 rfl rfl)
theorem dX10_doAct_172 : decode cX10_doAct 172 = .ok (.aload_n 0, 1) := dk_42 (dk_at dksX10_doAct_7 10 rfl rfl)
theorem dX10_doAct_173 : decode cX10_doAct 173 = .ok (.iload 6, 2) := dk_21 6 (dk_at dksX10_doAct_7 11 rfl rfl)
theorem dX10_doAct_175 : decode cX10_doAct 175 = .ok (.ifCond .eq 7, 3) := dk_153 0 7 (dk_at dksX10_doAct_7 13 rfl rfl)
theorem dX10_doAct_178 : decode cX10_doAct 178 = .ok (.iconst (-1), 1) := dk_2 (dk_at dksX10_doAct_7 16 rfl rfl)
theorem dX10_doAct_179 : decode cX10_doAct 179 = .ok (.goto 8, 3) := dk_167 0 8 (dk_at dksX10_doAct_7 17 rfl rfl)
theorem dX10_doAct_182 : decode cX10_doAct 182 = .ok (.iconst 2, 1) := dk_5 (dk_at dksX10_doAct_7 20 rfl rfl)
theorem dX10_doAct_183 : decode cX10_doAct 183 = .ok (.iload_n 2, 1) := dk_28 (dk_at dksX10_doAct_7 21 rfl rfl)
theorem dX10_doAct_184 : decode cX10_doAct 184 = .ok (.imul, 1) := dk_104 (dk_at dksX10_doAct_7 22 rfl rfl)
theorem dX10_doAct_185 : decode cX10_doAct 185 = .ok (.iload_n 1, 1) := dk_27 (dk_at dksX10_doAct_7 23 rfl rfl)
theorem dX10_doAct_186 : decode cX10_doAct 186 = .ok (.iadd, 1) := dk_96 (dk_at dksX10_doAct_8 0 rfl rfl)
theorem dX10_doAct_187 : decode cX10_doAct 187 = .ok (.invokevirtual 387, 3) := dk_182 1 131 (dk_at dksX10_doAct_8 1 rfl rfl)
theorem dX10_doAct_190 : decode cX10_doAct 190 = .ok (.istore 7, 2) := dk_54 7 (dk_at dksX10_doAct_8 4 rfl rfl)
theorem dX10_doAct_192 : decode cX10_doAct 192 = .ok (.iload 7, 2) := dk_21 7 (dk_at dksX10_doAct_8 6 rfl rfl)
theorem dX10_doAct_194 : decode cX10_doAct 194 = .ok (.ifCond .eq 6, 3) := dk_153 0 6 (dk_at dksX10_doAct_8 8 rfl rfl)
theorem dX10_doAct_197 : decode cX10_doAct 197 = .ok (.iload 7, 2) := dk_21 7 (dk_at dksX10_doAct_8 11 rfl rfl)
theorem dX10_doAct_199 : decode cX10_doAct 199 = .ok (.ireturn, 1) := dk_172 (dk_at dksX10_doAct_8 13 rfl rfl)
theorem dX10_doAct_200 : decode cX10_doAct 200 = .ok (.aload_n 0, 1) := dk_42 (dk_at dksX10_doAct_8 14 rfl rfl)
theorem dX10_doAct_201 : decode cX10_doAct 201 = .ok (.dup, 1) := dk_89 (dk_at dksX10_doAct_8 15 rfl rfl)
theorem dX10_doAct_202 : decode cX10_doAct 202 = .ok (.getfield 399, 3) := dk_180 1 143 (dk_at dksX10_doAct_8 16 rfl rfl)
theorem dX10_doAct_205 : decode cX10_doAct 205 = .ok (.iconst 1, 1) := dk_4 (dk_at dksX10_doAct_8 19 rfl rfl)
theorem dX10_doAct_206 : decode cX10_doAct 206 = .ok (.iadd, 1) := dk_96 (dk_at dksX10_doAct_8 20 rfl rfl)
theorem dX10_doAct_207 : decode cX10_doAct 207 = .ok (.putfield 399, 3) := dk_181 1 143 (dk_at dksX10_doAct_8 21 rfl rfl)
theorem dX10_doAct_210 : decode cX10_doAct 210 = .ok (.iinc 5 1, 3) := dk_132 5 1 (dk_at dksX10_doAct_9 0 rfl rfl)
theorem dX10_doAct_213 : decode cX10_doAct 213 = .ok (.goto (-87), 3) := dk_167 255 169 (dk_at dksX10_doAct_9 3 rfl rfl)
theorem dX10_doAct_216 : decode cX10_doAct 216 = .ok (.iconst 0, 1) := dk_3 (dk_at dksX10_doAct_9 6 rfl rfl)
theorem dX10_doAct_217 : decode cX10_doAct 217 = .ok (.ireturn, 1) := dk_172 (dk_at dksX10_doAct_9 7 rfl rfl)
theorem fl_X10_399 : gFl "BitingDoorsModel" 399 [8] 49 := by
  intro args s hts hN ci hc
  simp only [List.mem_cons, List.not_mem_nil, or_false] at hc
  subst hc
  exact ⟨RX10, TX10, 64, "BitingDoorsModel", gCl_X10, in_X10, by decide, Or.inl (hts _ q1699), fun _ h => h⟩
theorem fp_X10_399 {nm : String} : gFp "BitingDoorsModel" nm 399 [8] 49 .int := by
  intro args s hts hN ci hc
  simp only [List.mem_cons, List.not_mem_nil, or_false] at hc
  subst hc
  exact ⟨RX10, TX10, 64, "BitingDoorsModel", gCl_X10, in_X10, by decide, Or.inl ⟨rfl, Or.inl (hts _ q1699)⟩, fun _ h => h, rfl, fun D tys hK => gap_X10 hts hK⟩
theorem dn_X10_doAct : yX10_doAct.cls ≠ "java/lang/invoke/MethodHandle" ∧ yX10_doAct.cls ≠ "java/lang/invoke/VarHandle" ∧ (parseMethodDescriptor yX10_doAct.desc).map (fun d => d.parameters.length) = some 2 := by decide +kernel
noncomputable def M_X10_doAct (p1 : Int32) (p2 : Int32) : TM Int32 := if p1 < 4 then TM.loop (S := Int32) (fun s1 => if p2 ≤ s1 then TM.pure (Sum.inr 0) else TM.bind ((if p1 = 6 then TM.pure (-1) else TM.pure p1 : TM (Int32))) (fun u4 => TM.bind (M_X10_minute u4) (fun v5 => if v5 = 0 then TM.bind (tI 49) (fun v6 => TM.bind (sI 49 (v6 + 1)) (fun _ => TM.lv (s1 + 1) (fun v7 => TM.pure (Sum.inl v7)))) else TM.pure (Sum.inr v5)))) 0 else if p1 = 6 then TM.loop (S := Int32) (fun s25 => if p2 ≤ s25 then TM.pure (Sum.inr 0) else TM.bind ((if p1 = 6 then TM.pure (-1) else TM.pure p1 : TM (Int32))) (fun u28 => TM.bind (M_X10_minute u28) (fun v29 => if v29 = 0 then TM.bind (tI 49) (fun v30 => TM.bind (sI 49 (v30 + 1)) (fun _ => TM.lv (s25 + 1) (fun v31 => TM.pure (Sum.inl v31)))) else TM.pure (Sum.inr v29)))) 0 else TM.bind (M_X10_goalOf p1 p2) (fun v8 => TM.bind ((if p1 = 5 then TM.bind (tA 43 10 p2) (fun v24 => TM.pure v24) else TM.bind (tA 43 10 p2) (fun v23 => TM.pure (v8 - v23)) : TM (Int32))) (fun u9 => if 0 < u9 then TM.loop (S := Int32) (fun s10 => if u9 ≤ s10 then TM.pure (Sum.inr 0) else TM.bind ((if p1 = 5 then TM.bind (tA 43 10 p2) (fun v19 => if v19 = 0 then TM.pure true else TM.pure false) else TM.bind (tA 43 10 p2) (fun v18 => if v18 < v8 then TM.pure false else TM.pure true) : TM (Bool))) (fun u13 => TM.bind ((cond u13 (TM.pure (-1)) (TM.pure ((2 * p2) + p1)) : TM (Int32))) (fun u14 => TM.bind (M_X10_minute u14) (fun v15 => if v15 = 0 then TM.bind (tI 49) (fun v16 => TM.bind (sI 49 (v16 + 1)) (fun _ => TM.lv (s10 + 1) (fun v17 => TM.pure (Sum.inl v17)))) else TM.pure (Sum.inr v15))))) 0 else TM.bind (tI 45) (fun v20 => TM.bind ((if v20 = (-1) then TM.pure 1 else TM.bind (M_X10_isAt p2) (fun v22 => cond v22 (TM.pure 5) (TM.pure 4)) : TM (Int32))) (fun u21 => TM.pure u21))))
set_option maxHeartbeats 4000000 in
theorem ct_X10_doAct (G : gG) (am : Nat) (p1 : Int32) (p2 : Int32) : gCtM G am yX10_doAct cX10_doAct 8 (some .int) 6 150 [.ref am, .int p1, .int p2] (M_X10_doAct p1 p2) (fun x : Int32 => some (.int x)) := by
  refine gCtM.of (by decide) (Nat.le_of_ble_eq_true rfl) (fun K hn ms ms' r hG X hK hd ho => ?_)
  subst hG
  have X : gX K cX10_doAct 8 "BitingDoorsModel" "doAct" (some .int) 6 150 := X
  show V K 8 (mkM am hn ms) 0 [(0, .ref am), (1, .int p1), (2, .int p2)] []
  unfold M_X10_doAct at hd
  refine v_iload_n X dX10_doAct_0 1 1 rfl rfl ?_
  refine v_iconst (v := 4) X dX10_doAct_1 (by decide) ?_
  refine v_icmp_lt (tgt := 11) X dX10_doAct_2 (by decide) (fun q => ?_) (fun q => ?_)
  · have hd := Tite_t q hd
    refine v_iconst (v := 0) X dX10_doAct_11 (by decide) ?_
    refine v_istore_n (lv2 := [(3, .int 0), (0, .ref am), (1, .int p1), (2, .int p2)]) X dX10_doAct_12 3 rfl (by decide) rfl ?_
    refine v_loc [1, 2, 3, 0] rfl ?_
    refine Tloop_ind hd (fun (s1 : Int32) m => V K 8 (mkM am hn m) 13 [(0, .ref am), (1, .int p1), (2, .int p2), (3, .int s1)] []) (fun s1 ms x m2 hd ih2 ho3 => ?_)
    refine v_iload_n X dX10_doAct_13 3 3 rfl rfl ?_
    refine v_iload_n X dX10_doAct_14 2 2 rfl rfl ?_
    refine v_icmp_ge (tgt := 59) X dX10_doAct_15 (by decide) (fun q => ?_) (fun q => ?_)
    · have hd := Tite_t q hd
      refine v_iconst (v := 0) X dX10_doAct_59 (by decide) ?_
      have hd := Tlp_out hd ho3
      exact t_iret X hK hd ho dX10_doAct_60
    · have hd := Tite_f q hd
      refine v_aload_n X dX10_doAct_18 0 0 rfl rfl ?_
      refine v_iload_n X dX10_doAct_19 1 1 rfl rfl ?_
      refine v_bipush (v := 6) X dX10_doAct_20 (by decide) ?_
      obtain ⟨u4, m1, hd, hd2⟩ := TM.bind_some hd
      have KJ : V K 8 (mkM am hn m1) 30 [(0, .ref am), (1, .int p1), (2, .int p2), (3, .int s1)] [.int u4, .ref am] := by
        clear hd
        have hd := hd2
        refine t_callV X hK hd (ct_X10_minute _ am u4) (lw_V q2168 q2170 qs81 q120 q2171) ⟨rfl, dn_X10_minute⟩ rfl ⟨by decide, by decide⟩ rfl (Nat.le_of_ble_eq_true rfl) dX10_doAct_30 (fun v5 ms hd => ?_)
        show V K 8 (mkM am hn ms) 33 [(0, .ref am), (1, .int p1), (2, .int p2), (3, .int s1)] [.int v5]
        refine v_istore (lv2 := [(4, .int v5), (0, .ref am), (1, .int p1), (2, .int p2), (3, .int s1)]) X dX10_doAct_33 (by decide) rfl ?_
        refine v_iload X dX10_doAct_35 0 rfl ?_
        refine v_if_eq (tgt := 43) X dX10_doAct_37 (by decide) (fun q => ?_) (fun q => ?_)
        · have hd := Tite_t q hd
          refine v_aload_n X dX10_doAct_43 1 0 rfl rfl ?_
          refine v_dup X dX10_doAct_44 rfl ?_
          refine t_getI X hd rfl fl_X10_399 dX10_doAct_45 (fun v6 hd => ?_)
          refine v_iconst (v := 1) X dX10_doAct_48 (by decide) ?_
          refine v_iadd X dX10_doAct_49 ?_
          refine t_putI X hd rfl fp_X10_399 dX10_doAct_50 (fun ms hd => ?_)
          refine t_iincL (lv2 := fun v7 => [(3, .int v7), (4, .int v5), (0, .ref am), (1, .int p1), (2, .int p2)]) X hd dX10_doAct_53 4 rfl (by decide : Int32.ofInt 1 = 1) (by decide) (fun v7 => rfl) (fun v7 hd => ?_)
          refine v_goto (tgt := 13) X dX10_doAct_56 (by decide) ?_
          exact v_loc [2, 3, 4, 0] rfl (Tlp_in (P := fun (s1 : Int32) m => V K 8 (mkM am hn m) 13 [(0, .ref am), (1, .int p1), (2, .int p2), (3, .int s1)] []) hd ih2)
        · have hd := Tite_f q hd
          refine v_iload X dX10_doAct_40 0 rfl ?_
          have hd := Tlp_out hd ho3
          exact t_iret X hK hd ho dX10_doAct_42
      clear hd2
      refine v_icmp_ne (tgt := 29) X dX10_doAct_22 (by decide) (fun q => ?_) (fun q => ?_)
      · have hd := Tite_f q hd
        refine v_iload_n X dX10_doAct_29 1 1 rfl rfl ?_
        exact v_loc [0, 1, 2, 3] rfl (t_at (P := fun (u4 : Int32) m => V K 8 (mkM am hn m) 30 [(0, .ref am), (1, .int p1), (2, .int p2), (3, .int s1)] [.int u4, .ref am]) hd KJ)
      · have hd := Tite_t q hd
        refine v_iconst (v := (-1)) X dX10_doAct_25 (by decide) ?_
        refine v_goto (tgt := 30) X dX10_doAct_26 (by decide) ?_
        exact v_loc [0, 1, 2, 3] rfl (t_at (P := fun (u4 : Int32) m => V K 8 (mkM am hn m) 30 [(0, .ref am), (1, .int p1), (2, .int p2), (3, .int s1)] [.int u4, .ref am]) hd KJ)
  · have hd := Tite_f q hd
    refine v_iload_n X dX10_doAct_5 1 1 rfl rfl ?_
    refine v_bipush (v := 6) X dX10_doAct_6 (by decide) ?_
    refine v_icmp_ne (tgt := 61) X dX10_doAct_8 (by decide) (fun q => ?_) (fun q => ?_)
    · have hd := Tite_f q hd
      refine v_aload_n X dX10_doAct_61 0 0 rfl rfl ?_
      refine v_iload_n X dX10_doAct_62 1 1 rfl rfl ?_
      refine v_iload_n X dX10_doAct_63 2 2 rfl rfl ?_
      refine t_callV X hK hd (ct_X10_goalOf _ am p1 p2) (lw_V q2220 q2222 qs91 q120 q2223) ⟨rfl, dn_X10_goalOf⟩ rfl ⟨by decide, by decide⟩ rfl (Nat.le_of_ble_eq_true rfl) dX10_doAct_64 (fun v8 ms hd => ?_)
      show V K 8 (mkM am hn ms) 67 [(0, .ref am), (1, .int p1), (2, .int p2)] [.int v8]
      refine v_istore_n (lv2 := [(3, .int v8), (0, .ref am), (1, .int p1), (2, .int p2)]) X dX10_doAct_67 3 rfl (by decide) rfl ?_
      refine v_iload_n X dX10_doAct_68 2 1 rfl rfl ?_
      refine v_iconst (v := 5) X dX10_doAct_69 (by decide) ?_
      obtain ⟨u9, m1, hd, hd2⟩ := TM.bind_some hd
      have KJ : V K 8 (mkM am hn m1) 90 [(0, .ref am), (1, .int p1), (2, .int p2), (3, .int v8)] [.int u9] := by
        clear hd
        have hd := hd2
        refine v_istore (lv2 := [(4, .int u9), (0, .ref am), (1, .int p1), (2, .int p2), (3, .int v8)]) X dX10_doAct_90 (by decide) rfl ?_
        refine v_iload X dX10_doAct_92 0 rfl ?_
        refine v_if_gt (tgt := 123) X dX10_doAct_94 (by decide) (fun q => ?_) (fun q => ?_)
        · have hd := Tite_t q hd
          refine v_iconst (v := 0) X dX10_doAct_123 (by decide) ?_
          refine v_istore (lv2 := [(5, .int 0), (4, .int u9), (0, .ref am), (1, .int p1), (2, .int p2), (3, .int v8)]) X dX10_doAct_124 (by decide) rfl ?_
          refine v_loc [2, 3, 4, 5, 1, 0] rfl ?_
          refine Tloop_ind hd (fun (s10 : Int32) m => V K 8 (mkM am hn m) 126 [(0, .ref am), (1, .int p1), (2, .int p2), (3, .int v8), (4, .int u9), (5, .int s10)] []) (fun s10 ms x m2 hd ih11 ho12 => ?_)
          refine v_iload X dX10_doAct_126 5 rfl ?_
          refine v_iload X dX10_doAct_128 4 rfl ?_
          refine v_icmp_ge (tgt := 216) X dX10_doAct_130 (by decide) (fun q => ?_) (fun q => ?_)
          · have hd := Tite_t q hd
            refine v_iconst (v := 0) X dX10_doAct_216 (by decide) ?_
            have hd := Tlp_out hd ho12
            exact t_iret X hK hd ho dX10_doAct_217
          · have hd := Tite_f q hd
            refine v_iload_n X dX10_doAct_133 1 1 rfl rfl ?_
            refine v_iconst (v := 5) X dX10_doAct_134 (by decide) ?_
            obtain ⟨u13, m1, hd, hd2⟩ := TM.bind_some hd
            have KJ : V K 8 (mkM am hn m1) 170 [(0, .ref am), (1, .int p1), (2, .int p2), (3, .int v8), (4, .int u9), (5, .int s10)] [.int (b2i u13)] := by
              clear hd
              have hd := hd2
              refine v_istore (lv2 := [(6, .int (b2i u13)), (0, .ref am), (1, .int p1), (2, .int p2), (3, .int v8), (4, .int u9), (5, .int s10)]) X dX10_doAct_170 (by decide) rfl ?_
              refine v_aload_n X dX10_doAct_172 1 0 rfl rfl ?_
              refine v_iload X dX10_doAct_173 0 rfl ?_
              obtain ⟨u14, m1, hd, hd2⟩ := TM.bind_some hd
              have KJ : V K 8 (mkM am hn m1) 187 [(0, .ref am), (1, .int p1), (2, .int p2), (3, .int v8), (4, .int u9), (5, .int s10)] [.int u14, .ref am] := by
                clear hd
                have hd := hd2
                refine t_callV X hK hd (ct_X10_minute _ am u14) (lw_V q2168 q2170 qs81 q120 q2171) ⟨rfl, dn_X10_minute⟩ rfl ⟨by decide, by decide⟩ rfl (Nat.le_of_ble_eq_true rfl) dX10_doAct_187 (fun v15 ms hd => ?_)
                show V K 8 (mkM am hn ms) 190 [(0, .ref am), (1, .int p1), (2, .int p2), (3, .int v8), (4, .int u9), (5, .int s10)] [.int v15]
                refine v_istore (lv2 := [(7, .int v15), (0, .ref am), (1, .int p1), (2, .int p2), (3, .int v8), (4, .int u9), (5, .int s10)]) X dX10_doAct_190 (by decide) rfl ?_
                refine v_iload X dX10_doAct_192 0 rfl ?_
                refine v_if_eq (tgt := 200) X dX10_doAct_194 (by decide) (fun q => ?_) (fun q => ?_)
                · have hd := Tite_t q hd
                  refine v_aload_n X dX10_doAct_200 1 0 rfl rfl ?_
                  refine v_dup X dX10_doAct_201 rfl ?_
                  refine t_getI X hd rfl fl_X10_399 dX10_doAct_202 (fun v16 hd => ?_)
                  refine v_iconst (v := 1) X dX10_doAct_205 (by decide) ?_
                  refine v_iadd X dX10_doAct_206 ?_
                  refine t_putI X hd rfl fp_X10_399 dX10_doAct_207 (fun ms hd => ?_)
                  refine t_iincL (lv2 := fun v17 => [(5, .int v17), (7, .int v15), (0, .ref am), (1, .int p1), (2, .int p2), (3, .int v8), (4, .int u9)]) X hd dX10_doAct_210 6 rfl (by decide : Int32.ofInt 1 = 1) (by decide) (fun v17 => rfl) (fun v17 hd => ?_)
                  refine v_goto (tgt := 126) X dX10_doAct_213 (by decide) ?_
                  exact v_loc [2, 3, 4, 5, 6, 0] rfl (Tlp_in (P := fun (s10 : Int32) m => V K 8 (mkM am hn m) 126 [(0, .ref am), (1, .int p1), (2, .int p2), (3, .int v8), (4, .int u9), (5, .int s10)] []) hd ih11)
                · have hd := Tite_f q hd
                  refine v_iload X dX10_doAct_197 0 rfl ?_
                  have hd := Tlp_out hd ho12
                  exact t_iret X hK hd ho dX10_doAct_199
              clear hd2
              refine v_ifZ_eq (tgt := 182) X dX10_doAct_175 (by decide) (fun q => ?_) (fun q => ?_)
              · have hd := Tcnd_f q hd
                refine v_iconst (v := 2) X dX10_doAct_182 (by decide) ?_
                refine v_iload_n X dX10_doAct_183 3 2 rfl rfl ?_
                refine v_imul X dX10_doAct_184 ?_
                refine v_iload_n X dX10_doAct_185 2 1 rfl rfl ?_
                refine v_iadd X dX10_doAct_186 ?_
                exact v_loc [1, 2, 3, 4, 5, 6] rfl (t_at (P := fun (u14 : Int32) m => V K 8 (mkM am hn m) 187 [(0, .ref am), (1, .int p1), (2, .int p2), (3, .int v8), (4, .int u9), (5, .int s10)] [.int u14, .ref am]) hd KJ)
              · have hd := Tcnd_t q hd
                refine v_iconst (v := (-1)) X dX10_doAct_178 (by decide) ?_
                refine v_goto (tgt := 187) X dX10_doAct_179 (by decide) ?_
                exact v_loc [1, 2, 3, 4, 5, 6] rfl (t_at (P := fun (u14 : Int32) m => V K 8 (mkM am hn m) 187 [(0, .ref am), (1, .int p1), (2, .int p2), (3, .int v8), (4, .int u9), (5, .int s10)] [.int u14, .ref am]) hd KJ)
            clear hd2
            refine v_icmp_ne (tgt := 155) X dX10_doAct_135 (by decide) (fun q => ?_) (fun q => ?_)
            · have hd := Tite_f q hd
              refine v_aload_n X dX10_doAct_155 0 0 rfl rfl ?_
              refine t_getA (j := 22) X rfl fl_X10_78 dX10_doAct_156 ?_
              refine v_iload_n X dX10_doAct_159 2 2 rfl rfl ?_
              refine t_iald (j := 22) X hd rfl dX10_doAct_160 (fun v18 hd => ?_)
              refine v_iload_n X dX10_doAct_161 3 3 rfl rfl ?_
              refine v_icmp_lt (tgt := 169) X dX10_doAct_162 (by decide) (fun q => ?_) (fun q => ?_)
              · have hd := Tite_t q hd
                refine v_iconst (v := 0) X dX10_doAct_169 (by decide) ?_
                exact v_loc [0, 1, 2, 3, 4, 5] rfl (t_at (P := fun (u13 : Bool) m => V K 8 (mkM am hn m) 170 [(0, .ref am), (1, .int p1), (2, .int p2), (3, .int v8), (4, .int u9), (5, .int s10)] [.int (b2i u13)]) hd KJ)
              · have hd := Tite_f q hd
                refine v_iconst (v := 1) X dX10_doAct_165 (by decide) ?_
                refine v_goto (tgt := 170) X dX10_doAct_166 (by decide) ?_
                exact v_loc [0, 1, 2, 3, 4, 5] rfl (t_at (P := fun (u13 : Bool) m => V K 8 (mkM am hn m) 170 [(0, .ref am), (1, .int p1), (2, .int p2), (3, .int v8), (4, .int u9), (5, .int s10)] [.int (b2i u13)]) hd KJ)
            · have hd := Tite_t q hd
              refine v_aload_n X dX10_doAct_138 0 0 rfl rfl ?_
              refine t_getA (j := 22) X rfl fl_X10_78 dX10_doAct_139 ?_
              refine v_iload_n X dX10_doAct_142 2 2 rfl rfl ?_
              refine t_iald (j := 22) X hd rfl dX10_doAct_143 (fun v19 hd => ?_)
              refine v_if_ne (tgt := 151) X dX10_doAct_144 (by decide) (fun q => ?_) (fun q => ?_)
              · have hd := Tite_f q hd
                refine v_iconst (v := 0) X dX10_doAct_151 (by decide) ?_
                refine v_goto (tgt := 170) X dX10_doAct_152 (by decide) ?_
                exact v_loc [0, 1, 2, 3, 4, 5] rfl (t_at (P := fun (u13 : Bool) m => V K 8 (mkM am hn m) 170 [(0, .ref am), (1, .int p1), (2, .int p2), (3, .int v8), (4, .int u9), (5, .int s10)] [.int (b2i u13)]) hd KJ)
              · have hd := Tite_t q hd
                refine v_iconst (v := 1) X dX10_doAct_147 (by decide) ?_
                refine v_goto (tgt := 170) X dX10_doAct_148 (by decide) ?_
                exact v_loc [0, 1, 2, 3, 4, 5] rfl (t_at (P := fun (u13 : Bool) m => V K 8 (mkM am hn m) 170 [(0, .ref am), (1, .int p1), (2, .int p2), (3, .int v8), (4, .int u9), (5, .int s10)] [.int (b2i u13)]) hd KJ)
        · have hd := Tite_f q hd
          refine v_aload_n X dX10_doAct_97 1 0 rfl rfl ?_
          refine t_getI X hd rfl fl_X10_354 dX10_doAct_98 (fun v20 hd => ?_)
          refine v_iconst (v := (-1)) X dX10_doAct_101 (by decide) ?_
          obtain ⟨u21, m1, hd, hd2⟩ := TM.bind_some hd
          have KJ : V K 8 (mkM am hn m1) 122 [] [.int u21] := by
            clear hd
            have hd := hd2
            exact t_iret X hK hd ho dX10_doAct_122
          clear hd2
          refine v_icmp_ne (tgt := 109) X dX10_doAct_102 (by decide) (fun q => ?_) (fun q => ?_)
          · have hd := Tite_f q hd
            refine v_aload_n X dX10_doAct_109 1 0 rfl rfl ?_
            refine v_iload_n X dX10_doAct_110 3 2 rfl rfl ?_
            refine t_callV X hK hd (ct_X10_isAt _ am p2) (lw_V q2176 q2178 qs83 q120 q2179) ⟨rfl, dn_X10_isAt⟩ rfl ⟨by decide, by decide⟩ rfl (Nat.le_of_ble_eq_true rfl) dX10_doAct_111 (fun v22 ms hd => ?_)
            show V K 8 (mkM am hn ms) 114 [(4, .int u9), (0, .ref am), (1, .int p1), (2, .int p2), (3, .int v8)] [.int (b2i v22)]
            refine v_ifZ_eq (tgt := 121) X dX10_doAct_114 (by decide) (fun q => ?_) (fun q => ?_)
            · have hd := Tcnd_f q hd
              refine v_iconst (v := 4) X dX10_doAct_121 (by decide) ?_
              exact v_loc [] rfl (t_at (P := fun (u21 : Int32) m => V K 8 (mkM am hn m) 122 [] [.int u21]) hd KJ)
            · have hd := Tcnd_t q hd
              refine v_iconst (v := 5) X dX10_doAct_117 (by decide) ?_
              refine v_goto (tgt := 122) X dX10_doAct_118 (by decide) ?_
              exact v_loc [] rfl (t_at (P := fun (u21 : Int32) m => V K 8 (mkM am hn m) 122 [] [.int u21]) hd KJ)
          · have hd := Tite_t q hd
            refine v_iconst (v := 1) X dX10_doAct_105 (by decide) ?_
            refine v_goto (tgt := 122) X dX10_doAct_106 (by decide) ?_
            exact v_loc [] rfl (t_at (P := fun (u21 : Int32) m => V K 8 (mkM am hn m) 122 [] [.int u21]) hd KJ)
      clear hd2
      refine v_icmp_ne (tgt := 82) X dX10_doAct_70 (by decide) (fun q => ?_) (fun q => ?_)
      · have hd := Tite_f q hd
        refine v_iload_n X dX10_doAct_82 0 3 rfl rfl ?_
        refine v_aload_n X dX10_doAct_83 1 0 rfl rfl ?_
        refine t_getA (j := 22) X rfl fl_X10_78 dX10_doAct_84 ?_
        refine v_iload_n X dX10_doAct_87 3 2 rfl rfl ?_
        refine t_iald (j := 22) X hd rfl dX10_doAct_88 (fun v23 hd => ?_)
        refine v_isub X dX10_doAct_89 ?_
        exact v_loc [1, 2, 3, 0] rfl (t_at (P := fun (u9 : Int32) m => V K 8 (mkM am hn m) 90 [(0, .ref am), (1, .int p1), (2, .int p2), (3, .int v8)] [.int u9]) hd KJ)
      · have hd := Tite_t q hd
        refine v_aload_n X dX10_doAct_73 1 0 rfl rfl ?_
        refine t_getA (j := 22) X rfl fl_X10_78 dX10_doAct_74 ?_
        refine v_iload_n X dX10_doAct_77 3 2 rfl rfl ?_
        refine t_iald (j := 22) X hd rfl dX10_doAct_78 (fun v24 hd => ?_)
        refine v_goto (tgt := 90) X dX10_doAct_79 (by decide) ?_
        exact v_loc [1, 2, 3, 0] rfl (t_at (P := fun (u9 : Int32) m => V K 8 (mkM am hn m) 90 [(0, .ref am), (1, .int p1), (2, .int p2), (3, .int v8)] [.int u9]) hd KJ)
    · have hd := Tite_t q hd
      refine v_iconst (v := 0) X dX10_doAct_11 (by decide) ?_
      refine v_istore_n (lv2 := [(3, .int 0), (0, .ref am), (1, .int p1), (2, .int p2)]) X dX10_doAct_12 3 rfl (by decide) rfl ?_
      refine v_loc [1, 2, 3, 0] rfl ?_
      refine Tloop_ind hd (fun (s25 : Int32) m => V K 8 (mkM am hn m) 13 [(0, .ref am), (1, .int p1), (2, .int p2), (3, .int s25)] []) (fun s25 ms x m2 hd ih26 ho27 => ?_)
      refine v_iload_n X dX10_doAct_13 3 3 rfl rfl ?_
      refine v_iload_n X dX10_doAct_14 2 2 rfl rfl ?_
      refine v_icmp_ge (tgt := 59) X dX10_doAct_15 (by decide) (fun q => ?_) (fun q => ?_)
      · have hd := Tite_t q hd
        refine v_iconst (v := 0) X dX10_doAct_59 (by decide) ?_
        have hd := Tlp_out hd ho27
        exact t_iret X hK hd ho dX10_doAct_60
      · have hd := Tite_f q hd
        refine v_aload_n X dX10_doAct_18 0 0 rfl rfl ?_
        refine v_iload_n X dX10_doAct_19 1 1 rfl rfl ?_
        refine v_bipush (v := 6) X dX10_doAct_20 (by decide) ?_
        obtain ⟨u28, m1, hd, hd2⟩ := TM.bind_some hd
        have KJ : V K 8 (mkM am hn m1) 30 [(0, .ref am), (1, .int p1), (2, .int p2), (3, .int s25)] [.int u28, .ref am] := by
          clear hd
          have hd := hd2
          refine t_callV X hK hd (ct_X10_minute _ am u28) (lw_V q2168 q2170 qs81 q120 q2171) ⟨rfl, dn_X10_minute⟩ rfl ⟨by decide, by decide⟩ rfl (Nat.le_of_ble_eq_true rfl) dX10_doAct_30 (fun v29 ms hd => ?_)
          show V K 8 (mkM am hn ms) 33 [(0, .ref am), (1, .int p1), (2, .int p2), (3, .int s25)] [.int v29]
          refine v_istore (lv2 := [(4, .int v29), (0, .ref am), (1, .int p1), (2, .int p2), (3, .int s25)]) X dX10_doAct_33 (by decide) rfl ?_
          refine v_iload X dX10_doAct_35 0 rfl ?_
          refine v_if_eq (tgt := 43) X dX10_doAct_37 (by decide) (fun q => ?_) (fun q => ?_)
          · have hd := Tite_t q hd
            refine v_aload_n X dX10_doAct_43 1 0 rfl rfl ?_
            refine v_dup X dX10_doAct_44 rfl ?_
            refine t_getI X hd rfl fl_X10_399 dX10_doAct_45 (fun v30 hd => ?_)
            refine v_iconst (v := 1) X dX10_doAct_48 (by decide) ?_
            refine v_iadd X dX10_doAct_49 ?_
            refine t_putI X hd rfl fp_X10_399 dX10_doAct_50 (fun ms hd => ?_)
            refine t_iincL (lv2 := fun v31 => [(3, .int v31), (4, .int v29), (0, .ref am), (1, .int p1), (2, .int p2)]) X hd dX10_doAct_53 4 rfl (by decide : Int32.ofInt 1 = 1) (by decide) (fun v31 => rfl) (fun v31 hd => ?_)
            refine v_goto (tgt := 13) X dX10_doAct_56 (by decide) ?_
            exact v_loc [2, 3, 4, 0] rfl (Tlp_in (P := fun (s25 : Int32) m => V K 8 (mkM am hn m) 13 [(0, .ref am), (1, .int p1), (2, .int p2), (3, .int s25)] []) hd ih26)
          · have hd := Tite_f q hd
            refine v_iload X dX10_doAct_40 0 rfl ?_
            have hd := Tlp_out hd ho27
            exact t_iret X hK hd ho dX10_doAct_42
        clear hd2
        refine v_icmp_ne (tgt := 29) X dX10_doAct_22 (by decide) (fun q => ?_) (fun q => ?_)
        · have hd := Tite_f q hd
          refine v_iload_n X dX10_doAct_29 1 1 rfl rfl ?_
          exact v_loc [0, 1, 2, 3] rfl (t_at (P := fun (u28 : Int32) m => V K 8 (mkM am hn m) 30 [(0, .ref am), (1, .int p1), (2, .int p2), (3, .int s25)] [.int u28, .ref am]) hd KJ)
        · have hd := Tite_t q hd
          refine v_iconst (v := (-1)) X dX10_doAct_25 (by decide) ?_
          refine v_goto (tgt := 30) X dX10_doAct_26 (by decide) ?_
          exact v_loc [0, 1, 2, 3] rfl (t_at (P := fun (u28 : Int32) m => V K 8 (mkM am hn m) 30 [(0, .ref am), (1, .int p1), (2, .int p2), (3, .int s25)] [.int u28, .ref am]) hd KJ)
def dkwX10_takeNow_2 : List UInt8 := [181, 1, 101, 42, 182, 1, 104, 177]
abbrev dktX10_takeNow_2 : List UInt8 := dkwX10_takeNow_2 ++ []
def dkwX10_takeNow_1 : List UInt8 := [27, 96, 46, 79, 132, 1, 1, 167, 255, 231, 42, 42, 180, 0, 13, 17, 1, 84, 46, 181, 1, 98, 42, 3]
abbrev dktX10_takeNow_1 : List UInt8 := dkwX10_takeNow_1 ++ dktX10_takeNow_2
def dkwX10_takeNow_0 : List UInt8 := [42, 182, 0, 200, 3, 60, 27, 16, 10, 162, 0, 25, 42, 180, 0, 78, 27, 42, 180, 0, 13, 17, 1, 74]
abbrev dktX10_takeNow_0 : List UInt8 := dkwX10_takeNow_0 ++ dktX10_takeNow_1
theorem dksX10_takeNow_0 : cX10_takeNow.data.toList.drop 0 = dktX10_takeNow_0 := by decide +kernel
theorem dksX10_takeNow_1 : cX10_takeNow.data.toList.drop 24 = dktX10_takeNow_1 := dk_seg dksX10_takeNow_0 24 rfl rfl
theorem dksX10_takeNow_2 : cX10_takeNow.data.toList.drop 48 = dktX10_takeNow_2 := dk_seg dksX10_takeNow_1 24 rfl rfl
theorem dX10_takeNow_0 : decode cX10_takeNow 0 = .ok (.aload_n 0, 1) := dk_42 (dk_at dksX10_takeNow_0 0 rfl rfl)
theorem dX10_takeNow_1 : decode cX10_takeNow 1 = .ok (.invokevirtual 200, 3) := dk_182 0 200 (dk_at dksX10_takeNow_0 1 rfl rfl)
theorem dX10_takeNow_4 : decode cX10_takeNow 4 = .ok (.iconst 0, 1) := dk_3 (dk_at dksX10_takeNow_0 4 rfl rfl)
theorem dX10_takeNow_5 : decode cX10_takeNow 5 = .ok (.istore_n 1, 1) := dk_60 (dk_at dksX10_takeNow_0 5 rfl rfl)
theorem dX10_takeNow_6 : decode cX10_takeNow 6 = .ok (.iload_n 1, 1) := dk_27 (dk_at dksX10_takeNow_0 6 rfl rfl)
theorem dX10_takeNow_7 : decode cX10_takeNow 7 = .ok (.bipush 10, 2) := dk_16 10 (dk_at dksX10_takeNow_0 7 rfl rfl)
theorem dX10_takeNow_9 : decode cX10_takeNow 9 = .ok (.if_icmp .ge 25, 3) := dk_162 0 25 (dk_at dksX10_takeNow_0 9 rfl rfl)
theorem dX10_takeNow_12 : decode cX10_takeNow 12 = .ok (.aload_n 0, 1) := dk_42 (dk_at dksX10_takeNow_0 12 rfl rfl)
theorem dX10_takeNow_13 : decode cX10_takeNow 13 = .ok (.getfield 78, 3) := dk_180 0 78 (dk_at dksX10_takeNow_0 13 rfl rfl)
theorem dX10_takeNow_16 : decode cX10_takeNow 16 = .ok (.iload_n 1, 1) := dk_27 (dk_at dksX10_takeNow_0 16 rfl rfl)
theorem dX10_takeNow_17 : decode cX10_takeNow 17 = .ok (.aload_n 0, 1) := dk_42 (dk_at dksX10_takeNow_0 17 rfl rfl)
theorem dX10_takeNow_18 : decode cX10_takeNow 18 = .ok (.getfield 13, 3) := dk_180 0 13 (dk_at dksX10_takeNow_0 18 rfl rfl)
theorem dX10_takeNow_21 : decode cX10_takeNow 21 = .ok (.sipush 330, 3) := dk_17 1 74 (dk_at dksX10_takeNow_0 21 rfl rfl)
theorem dX10_takeNow_24 : decode cX10_takeNow 24 = .ok (.iload_n 1, 1) := dk_27 (dk_at dksX10_takeNow_1 0 rfl rfl)
theorem dX10_takeNow_25 : decode cX10_takeNow 25 = .ok (.iadd, 1) := dk_96 (dk_at dksX10_takeNow_1 1 rfl rfl)
theorem dX10_takeNow_26 : decode cX10_takeNow 26 = .ok (.iaload, 1) := dk_46 (dk_at dksX10_takeNow_1 2 rfl rfl)
theorem dX10_takeNow_27 : decode cX10_takeNow 27 = .ok (.iastore, 1) := dk_79 (dk_at dksX10_takeNow_1 3 rfl rfl)
theorem dX10_takeNow_28 : decode cX10_takeNow 28 = .ok (.iinc 1 1, 3) := dk_132 1 1 (dk_at dksX10_takeNow_1 4 rfl rfl)
theorem dX10_takeNow_31 : decode cX10_takeNow 31 = .ok (.goto (-25), 3) := dk_167 255 231 (dk_at dksX10_takeNow_1 7 rfl rfl)
theorem dX10_takeNow_34 : decode cX10_takeNow 34 = .ok (.aload_n 0, 1) := dk_42 (dk_at dksX10_takeNow_1 10 rfl rfl)
theorem dX10_takeNow_35 : decode cX10_takeNow 35 = .ok (.aload_n 0, 1) := dk_42 (dk_at dksX10_takeNow_1 11 rfl rfl)
theorem dX10_takeNow_36 : decode cX10_takeNow 36 = .ok (.getfield 13, 3) := dk_180 0 13 (dk_at dksX10_takeNow_1 12 rfl rfl)
theorem dX10_takeNow_39 : decode cX10_takeNow 39 = .ok (.sipush 340, 3) := dk_17 1 84 (dk_at dksX10_takeNow_1 15 rfl rfl)
theorem dX10_takeNow_42 : decode cX10_takeNow 42 = .ok (.iaload, 1) := dk_46 (dk_at dksX10_takeNow_1 18 rfl rfl)
theorem dX10_takeNow_43 : decode cX10_takeNow 43 = .ok (.putfield 354, 3) := dk_181 1 98 (dk_at dksX10_takeNow_1 19 rfl rfl)
theorem dX10_takeNow_46 : decode cX10_takeNow 46 = .ok (.aload_n 0, 1) := dk_42 (dk_at dksX10_takeNow_1 22 rfl rfl)
theorem dX10_takeNow_47 : decode cX10_takeNow 47 = .ok (.iconst 0, 1) := dk_3 (dk_at dksX10_takeNow_1 23 rfl rfl)
theorem dX10_takeNow_48 : decode cX10_takeNow 48 = .ok (.putfield 357, 3) := dk_181 1 101 (dk_at dksX10_takeNow_2 0 rfl rfl)
theorem dX10_takeNow_51 : decode cX10_takeNow 51 = .ok (.aload_n 0, 1) := dk_42 (dk_at dksX10_takeNow_2 3 rfl rfl)
theorem dX10_takeNow_52 : decode cX10_takeNow 52 = .ok (.invokevirtual 360, 3) := dk_182 1 104 (dk_at dksX10_takeNow_2 4 rfl rfl)
theorem dX10_takeNow_55 : decode cX10_takeNow 55 = .ok (.return_, 1) := dk_177 (dk_at dksX10_takeNow_2 7 rfl rfl)
theorem dn_X10_takeNow : yX10_takeNow.cls ≠ "java/lang/invoke/MethodHandle" ∧ yX10_takeNow.cls ≠ "java/lang/invoke/VarHandle" ∧ (parseMethodDescriptor yX10_takeNow.desc).map (fun d => d.parameters.length) = some 0 := by decide +kernel
noncomputable def M_X10_takeNow  : TM Unit := TM.bind (M_X10_lay) (fun v1 => TM.bind (TM.loop (S := Int32) (E := Unit) (fun s2 => if 10 ≤ s2 then TM.pure (Sum.inr ()) else TM.bind (tA 14 704 (330 + s2)) (fun v6 => TM.bind (sA 43 10 s2 v6) (fun _ => TM.lv (s2 + 1) (fun v7 => TM.pure (Sum.inl v7))))) 0) (fun e5 => TM.bind (tA 14 704 340) (fun v8 => TM.bind (sI 45 v8) (fun _ => TM.bind (sI 46 0) (fun _ => TM.bind (M_X10_layLeaves) (fun v9 => TM.pure ()))))))
set_option maxHeartbeats 4000000 in
theorem ct_X10_takeNow (G : gG) (am : Nat)  : gCtM G am yX10_takeNow cX10_takeNow 2 none 3 77 [.ref am] (M_X10_takeNow) (fun _ : Unit => none) := by
  refine gCtM.of (by decide) (Nat.le_of_ble_eq_true rfl) (fun K hn ms ms' r hG X hK hd ho => ?_)
  subst hG
  have X : gX K cX10_takeNow 2 "BitingDoorsModel" "takeNow" none 3 77 := X
  show V K 2 (mkM am hn ms) 0 [(0, .ref am)] []
  unfold M_X10_takeNow at hd
  refine v_aload_n X dX10_takeNow_0 0 0 rfl rfl ?_
  refine t_callV X hK hd (ct_X10_lay _ am) (lw_V q1868 q1870 qs37 q120 q1871) ⟨rfl, dn_X10_lay⟩ rfl ⟨by decide, by decide⟩ rfl (Nat.le_of_ble_eq_true rfl) dX10_takeNow_1 (fun v1 ms hd => ?_)
  show V K 2 (mkM am hn ms) 4 [(0, .ref am)] []
  refine v_iconst (v := 0) X dX10_takeNow_4 (by decide) ?_
  refine v_istore_n (lv2 := [(1, .int 0), (0, .ref am)]) X dX10_takeNow_5 1 rfl (by decide) rfl ?_
  obtain ⟨e5, m1, hd, hd2⟩ := TM.bind_some hd
  have KX : V K 2 (mkM am hn m1) 34 [(0, .ref am)] [] := by
    clear hd
    have hd := hd2
    refine v_aload_n X dX10_takeNow_34 0 0 rfl rfl ?_
    refine v_aload_n X dX10_takeNow_35 0 0 rfl rfl ?_
    refine t_getA (j := 1) X rfl fl_X10_13 dX10_takeNow_36 ?_
    refine v_sipush (v := 340) X dX10_takeNow_39 (by decide) ?_
    refine t_iald (j := 1) X hd rfl dX10_takeNow_42 (fun v8 hd => ?_)
    refine t_putI X hd rfl fp_X10_354 dX10_takeNow_43 (fun ms hd => ?_)
    refine v_aload_n X dX10_takeNow_46 0 0 rfl rfl ?_
    refine v_iconst (v := 0) X dX10_takeNow_47 (by decide) ?_
    refine t_putI X hd rfl fp_X10_357 dX10_takeNow_48 (fun ms hd => ?_)
    refine v_aload_n X dX10_takeNow_51 0 0 rfl rfl ?_
    refine t_callV X hK hd (ct_X10_layLeaves _ am) (lw_V q2148 q2150 qs78 q120 q2151) ⟨rfl, dn_X10_layLeaves⟩ rfl ⟨by decide, by decide⟩ rfl (Nat.le_of_ble_eq_true rfl) dX10_takeNow_52 (fun v9 ms hd => ?_)
    show V K 2 (mkM am hn ms) 55 [(0, .ref am)] []
    exact t_vret X hK hd ho dX10_takeNow_55
  clear hd2
  refine v_loc [1, 0] rfl ?_
  refine Tloop_ind hd (fun (s2 : Int32) m => V K 2 (mkM am hn m) 6 [(0, .ref am), (1, .int s2)] []) (fun s2 ms x m2 hd ih3 ho4 => ?_)
  refine v_iload_n X dX10_takeNow_6 1 1 rfl rfl ?_
  refine v_bipush (v := 10) X dX10_takeNow_7 (by decide) ?_
  refine v_icmp_ge (tgt := 34) X dX10_takeNow_9 (by decide) (fun q => ?_) (fun q => ?_)
  · have hd := Tite_t q hd
    exact v_loc [0] rfl (t_at (P := fun (e5 : Unit) m => V K 2 (mkM am hn m) 34 [(0, .ref am)] []) (Tlp_out hd ho4) KX)
  · have hd := Tite_f q hd
    refine v_aload_n X dX10_takeNow_12 0 0 rfl rfl ?_
    refine t_getA (j := 22) X rfl fl_X10_78 dX10_takeNow_13 ?_
    refine v_iload_n X dX10_takeNow_16 1 1 rfl rfl ?_
    refine v_aload_n X dX10_takeNow_17 0 0 rfl rfl ?_
    refine t_getA (j := 1) X rfl fl_X10_13 dX10_takeNow_18 ?_
    refine v_sipush (v := 330) X dX10_takeNow_21 (by decide) ?_
    refine v_iload_n X dX10_takeNow_24 1 1 rfl rfl ?_
    refine v_iadd X dX10_takeNow_25 ?_
    refine t_iald (j := 1) X hd rfl dX10_takeNow_26 (fun v6 hd => ?_)
    refine t_iast (j := 22) X hd rfl dX10_takeNow_27 (fun ms hd => ?_)
    refine t_iincL (lv2 := fun v7 => [(1, .int v7), (0, .ref am)]) X hd dX10_takeNow_28 1 rfl (by decide : Int32.ofInt 1 = 1) (by decide) (fun v7 => rfl) (fun v7 hd => ?_)
    refine v_goto (tgt := 6) X dX10_takeNow_31 (by decide) ?_
    exact v_loc [1, 0] rfl (Tlp_in (P := fun (s2 : Int32) m => V K 2 (mkM am hn m) 6 [(0, .ref am), (1, .int s2)] []) hd ih3)
def dkwX10_doDay_6 : List UInt8 := [42, 180, 1, 101, 79, 42, 180, 0, 84, 7, 29, 79, 28, 172]
abbrev dktX10_doDay_6 : List UInt8 := dkwX10_doDay_6 ++ []
def dkwX10_doDay_5 : List UInt8 := [180, 0, 84, 4, 42, 180, 1, 143, 79, 42, 180, 0, 84, 5, 42, 180, 1, 98, 79, 42, 180, 0, 84, 6]
abbrev dktX10_doDay_5 : List UInt8 := dkwX10_doDay_5 ++ dktX10_doDay_6
def dkwX10_doDay_4 : List UInt8 := [153, 0, 10, 29, 4, 21, 4, 120, 128, 62, 132, 4, 1, 167, 255, 227, 42, 180, 0, 84, 3, 27, 79, 42]
abbrev dktX10_doDay_4 : List UInt8 := dkwX10_doDay_4 ++ dktX10_doDay_5
def dkwX10_doDay_3 : List UInt8 := [167, 255, 200, 3, 62, 3, 54, 4, 21, 4, 42, 182, 0, 211, 162, 0, 26, 42, 180, 0, 78, 21, 4, 46]
abbrev dktX10_doDay_3 : List UInt8 := dkwX10_doDay_3 ++ dktX10_doDay_4
def dkwX10_doDay_2 : List UInt8 := [17, 1, 86, 5, 29, 104, 96, 4, 96, 46, 182, 1, 149, 60, 27, 153, 0, 5, 29, 61, 132, 3, 1]
abbrev dktX10_doDay_2 : List UInt8 := dkwX10_doDay_2 ++ dktX10_doDay_3
def dkwX10_doDay_1 : List UInt8 := [162, 0, 50, 27, 154, 0, 46, 42, 42, 180, 0, 13, 17, 1, 86, 5, 29, 104, 96, 46, 42, 180, 0, 13]
abbrev dktX10_doDay_1 : List UInt8 := dkwX10_doDay_1 ++ dktX10_doDay_2
def dkwX10_doDay_0 : List UInt8 := [42, 182, 1, 125, 42, 3, 181, 1, 143, 3, 60, 2, 61, 3, 62, 29, 42, 180, 0, 13, 17, 1, 85, 46]
abbrev dktX10_doDay_0 : List UInt8 := dkwX10_doDay_0 ++ dktX10_doDay_1
theorem dksX10_doDay_0 : cX10_doDay.data.toList.drop 0 = dktX10_doDay_0 := by decide +kernel
theorem dksX10_doDay_1 : cX10_doDay.data.toList.drop 24 = dktX10_doDay_1 := dk_seg dksX10_doDay_0 24 rfl rfl
theorem dksX10_doDay_2 : cX10_doDay.data.toList.drop 48 = dktX10_doDay_2 := dk_seg dksX10_doDay_1 24 rfl rfl
theorem dksX10_doDay_3 : cX10_doDay.data.toList.drop 71 = dktX10_doDay_3 := dk_seg dksX10_doDay_2 23 rfl rfl
theorem dksX10_doDay_4 : cX10_doDay.data.toList.drop 95 = dktX10_doDay_4 := dk_seg dksX10_doDay_3 24 rfl rfl
theorem dksX10_doDay_5 : cX10_doDay.data.toList.drop 119 = dktX10_doDay_5 := dk_seg dksX10_doDay_4 24 rfl rfl
theorem dksX10_doDay_6 : cX10_doDay.data.toList.drop 143 = dktX10_doDay_6 := dk_seg dksX10_doDay_5 24 rfl rfl
theorem dX10_doDay_0 : decode cX10_doDay 0 = .ok (.aload_n 0, 1) := dk_42 (dk_at dksX10_doDay_0 0 rfl rfl)
theorem dX10_doDay_1 : decode cX10_doDay 1 = .ok (.invokevirtual 381, 3) := dk_182 1 125 (dk_at dksX10_doDay_0 1 rfl rfl)
theorem dX10_doDay_4 : decode cX10_doDay 4 = .ok (.aload_n 0, 1) := dk_42 (dk_at dksX10_doDay_0 4 rfl rfl)
theorem dX10_doDay_5 : decode cX10_doDay 5 = .ok (.iconst 0, 1) := dk_3 (dk_at dksX10_doDay_0 5 rfl rfl)
theorem dX10_doDay_6 : decode cX10_doDay 6 = .ok (.putfield 399, 3) := dk_181 1 143 (dk_at dksX10_doDay_0 6 rfl rfl)
theorem dX10_doDay_9 : decode cX10_doDay 9 = .ok (.iconst 0, 1) := dk_3 (dk_at dksX10_doDay_0 9 rfl rfl)
theorem dX10_doDay_10 : decode cX10_doDay 10 = .ok (.istore_n 1, 1) := dk_60 (dk_at dksX10_doDay_0 10 rfl rfl)
theorem dX10_doDay_11 : decode cX10_doDay 11 = .ok (.iconst (-1), 1) := dk_2 (dk_at dksX10_doDay_0 11 rfl rfl)
theorem dX10_doDay_12 : decode cX10_doDay 12 = .ok (.istore_n 2, 1) := dk_61 (dk_at dksX10_doDay_0 12 rfl rfl)
theorem dX10_doDay_13 : decode cX10_doDay 13 = .ok (.iconst 0, 1) := dk_3 (dk_at dksX10_doDay_0 13 rfl rfl)
theorem dX10_doDay_14 : decode cX10_doDay 14 = .ok (.istore_n 3, 1) := dk_62 (dk_at dksX10_doDay_0 14 rfl rfl)
theorem dX10_doDay_15 : decode cX10_doDay 15 = .ok (.iload_n 3, 1) := dk_29 (dk_at dksX10_doDay_0 15 rfl rfl)
theorem dX10_doDay_16 : decode cX10_doDay 16 = .ok (.aload_n 0, 1) := dk_42 (dk_at dksX10_doDay_0 16 rfl rfl)
theorem dX10_doDay_17 : decode cX10_doDay 17 = .ok (.getfield 13, 3) := dk_180 0 13 (dk_at dksX10_doDay_0 17 rfl rfl)
theorem dX10_doDay_20 : decode cX10_doDay 20 = .ok (.sipush 341, 3) := dk_17 1 85 (dk_at dksX10_doDay_0 20 rfl rfl)
theorem dX10_doDay_23 : decode cX10_doDay 23 = .ok (.iaload, 1) := dk_46 (dk_at dksX10_doDay_0 23 rfl rfl)
theorem dX10_doDay_24 : decode cX10_doDay 24 = .ok (.if_icmp .ge 50, 3) := dk_162 0 50 (dk_at dksX10_doDay_1 0 rfl rfl)
theorem dX10_doDay_27 : decode cX10_doDay 27 = .ok (.iload_n 1, 1) := dk_27 (dk_at dksX10_doDay_1 3 rfl rfl)
theorem dX10_doDay_28 : decode cX10_doDay 28 = .ok (.ifCond .ne 46, 3) := dk_154 0 46 (dk_at dksX10_doDay_1 4 rfl rfl)
theorem dX10_doDay_31 : decode cX10_doDay 31 = .ok (.aload_n 0, 1) := dk_42 (dk_at dksX10_doDay_1 7 rfl rfl)
theorem dX10_doDay_32 : decode cX10_doDay 32 = .ok (.aload_n 0, 1) := dk_42 (dk_at dksX10_doDay_1 8 rfl rfl)
theorem dX10_doDay_33 : decode cX10_doDay 33 = .ok (.getfield 13, 3) := dk_180 0 13 (dk_at dksX10_doDay_1 9 rfl rfl)
theorem dX10_doDay_36 : decode cX10_doDay 36 = .ok (.sipush 342, 3) := dk_17 1 86 (dk_at dksX10_doDay_1 12 rfl rfl)
theorem dX10_doDay_39 : decode cX10_doDay 39 = .ok (.iconst 2, 1) := dk_5 (dk_at dksX10_doDay_1 15 rfl rfl)
theorem dX10_doDay_40 : decode cX10_doDay 40 = .ok (.iload_n 3, 1) := dk_29 (dk_at dksX10_doDay_1 16 rfl rfl)
theorem dX10_doDay_41 : decode cX10_doDay 41 = .ok (.imul, 1) := dk_104 (dk_at dksX10_doDay_1 17 rfl rfl)
theorem dX10_doDay_42 : decode cX10_doDay 42 = .ok (.iadd, 1) := dk_96 (dk_at dksX10_doDay_1 18 rfl rfl)
theorem dX10_doDay_43 : decode cX10_doDay 43 = .ok (.iaload, 1) := dk_46 (dk_at dksX10_doDay_1 19 rfl rfl)
theorem dX10_doDay_44 : decode cX10_doDay 44 = .ok (.aload_n 0, 1) := dk_42 (dk_at dksX10_doDay_1 20 rfl rfl)
theorem dX10_doDay_45 : decode cX10_doDay 45 = .ok (.getfield 13, 3) := dk_180 0 13 (dk_at dksX10_doDay_1 21 rfl rfl)
theorem dX10_doDay_48 : decode cX10_doDay 48 = .ok (.sipush 342, 3) := dk_17 1 86 (dk_at dksX10_doDay_2 0 rfl rfl)
theorem dX10_doDay_51 : decode cX10_doDay 51 = .ok (.iconst 2, 1) := dk_5 (dk_at dksX10_doDay_2 3 rfl rfl)
theorem dX10_doDay_52 : decode cX10_doDay 52 = .ok (.iload_n 3, 1) := dk_29 (dk_at dksX10_doDay_2 4 rfl rfl)
theorem dX10_doDay_53 : decode cX10_doDay 53 = .ok (.imul, 1) := dk_104 (dk_at dksX10_doDay_2 5 rfl rfl)
theorem dX10_doDay_54 : decode cX10_doDay 54 = .ok (.iadd, 1) := dk_96 (dk_at dksX10_doDay_2 6 rfl rfl)
theorem dX10_doDay_55 : decode cX10_doDay 55 = .ok (.iconst 1, 1) := dk_4 (dk_at dksX10_doDay_2 7 rfl rfl)
theorem dX10_doDay_56 : decode cX10_doDay 56 = .ok (.iadd, 1) := dk_96 (dk_at dksX10_doDay_2 8 rfl rfl)
theorem dX10_doDay_57 : decode cX10_doDay 57 = .ok (.iaload, 1) := dk_46 (dk_at dksX10_doDay_2 9 rfl rfl)
theorem dX10_doDay_58 : decode cX10_doDay 58 = .ok (.invokevirtual 405, 3) := dk_182 1 149 (dk_at dksX10_doDay_2 10 rfl rfl)
theorem dX10_doDay_61 : decode cX10_doDay 61 = .ok (.istore_n 1, 1) := dk_60 (dk_at dksX10_doDay_2 13 rfl rfl)
theorem dX10_doDay_62 : decode cX10_doDay 62 = .ok (.iload_n 1, 1) := dk_27 (dk_at dksX10_doDay_2 14 rfl rfl)
theorem dX10_doDay_63 : decode cX10_doDay 63 = .ok (.ifCond .eq 5, 3) := dk_153 0 5 (dk_at dksX10_doDay_2 15 rfl rfl)
theorem dX10_doDay_66 : decode cX10_doDay 66 = .ok (.iload_n 3, 1) := dk_29 (dk_at dksX10_doDay_2 18 rfl rfl)
theorem dX10_doDay_67 : decode cX10_doDay 67 = .ok (.istore_n 2, 1) := dk_61 (dk_at dksX10_doDay_2 19 rfl rfl)
theorem dX10_doDay_68 : decode cX10_doDay 68 = .ok (.iinc 3 1, 3) := dk_132 3 1 (dk_at dksX10_doDay_2 20 rfl rfl)
theorem dX10_doDay_71 : decode cX10_doDay 71 = .ok (.goto (-56), 3) := dk_167 255 200 (dk_at dksX10_doDay_3 0 rfl rfl)
theorem dX10_doDay_74 : decode cX10_doDay 74 = .ok (.iconst 0, 1) := dk_3 (dk_at dksX10_doDay_3 3 rfl rfl)
theorem dX10_doDay_75 : decode cX10_doDay 75 = .ok (.istore_n 3, 1) := dk_62 (dk_at dksX10_doDay_3 4 rfl rfl)
theorem dX10_doDay_76 : decode cX10_doDay 76 = .ok (.iconst 0, 1) := dk_3 (dk_at dksX10_doDay_3 5 rfl rfl)
theorem dX10_doDay_77 : decode cX10_doDay 77 = .ok (.istore 4, 2) := dk_54 4 (dk_at dksX10_doDay_3 6 rfl rfl)
theorem dX10_doDay_79 : decode cX10_doDay 79 = .ok (.iload 4, 2) := dk_21 4 (dk_at dksX10_doDay_3 8 rfl rfl)
theorem dX10_doDay_81 : decode cX10_doDay 81 = .ok (.aload_n 0, 1) := dk_42 (dk_at dksX10_doDay_3 10 rfl rfl)
theorem dX10_doDay_82 : decode cX10_doDay 82 = .ok (.invokevirtual 211, 3) := dk_182 0 211 (dk_at dksX10_doDay_3 11 rfl rfl)
theorem dX10_doDay_85 : decode cX10_doDay 85 = .ok (.if_icmp .ge 26, 3) := dk_162 0 26 (dk_at dksX10_doDay_3 14 rfl rfl)
theorem dX10_doDay_88 : decode cX10_doDay 88 = .ok (.aload_n 0, 1) := dk_42 (dk_at dksX10_doDay_3 17 rfl rfl)
theorem dX10_doDay_89 : decode cX10_doDay 89 = .ok (.getfield 78, 3) := dk_180 0 78 (dk_at dksX10_doDay_3 18 rfl rfl)
theorem dX10_doDay_92 : decode cX10_doDay 92 = .ok (.iload 4, 2) := dk_21 4 (dk_at dksX10_doDay_3 21 rfl rfl)
theorem dX10_doDay_94 : decode cX10_doDay 94 = .ok (.iaload, 1) := dk_46 (dk_at dksX10_doDay_3 23 rfl rfl)
theorem dX10_doDay_95 : decode cX10_doDay 95 = .ok (.ifCond .eq 10, 3) := dk_153 0 10 (dk_at dksX10_doDay_4 0 rfl rfl)
theorem dX10_doDay_98 : decode cX10_doDay 98 = .ok (.iload_n 3, 1) := dk_29 (dk_at dksX10_doDay_4 3 rfl rfl)
theorem dX10_doDay_99 : decode cX10_doDay 99 = .ok (.iconst 1, 1) := dk_4 (dk_at dksX10_doDay_4 4 rfl rfl)
theorem dX10_doDay_100 : decode cX10_doDay 100 = .ok (.iload 4, 2) := dk_21 4 (dk_at dksX10_doDay_4 5 rfl rfl)
theorem dX10_doDay_102 : decode cX10_doDay 102 = .ok (.ishl, 1) := dk_120 (dk_at dksX10_doDay_4 7 rfl rfl)
theorem dX10_doDay_103 : decode cX10_doDay 103 = .ok (.ior, 1) := dk_128 (dk_at dksX10_doDay_4 8 rfl rfl)
theorem dX10_doDay_104 : decode cX10_doDay 104 = .ok (.istore_n 3, 1) := dk_62 (dk_at dksX10_doDay_4 9 rfl rfl)
theorem dX10_doDay_105 : decode cX10_doDay 105 = .ok (.iinc 4 1, 3) := dk_132 4 1 (dk_at dksX10_doDay_4 10 rfl rfl)
theorem dX10_doDay_108 : decode cX10_doDay 108 = .ok (.goto (-29), 3) := dk_167 255 227 (dk_at dksX10_doDay_4 13 rfl rfl)
theorem dX10_doDay_111 : decode cX10_doDay 111 = .ok (.aload_n 0, 1) := dk_42 (dk_at dksX10_doDay_4 16 rfl rfl)
theorem dX10_doDay_112 : decode cX10_doDay 112 = .ok (.getfield 84, 3) := dk_180 0 84 (dk_at dksX10_doDay_4 17 rfl rfl)
theorem dX10_doDay_115 : decode cX10_doDay 115 = .ok (.iconst 0, 1) := dk_3 (dk_at dksX10_doDay_4 20 rfl rfl)
theorem dX10_doDay_116 : decode cX10_doDay 116 = .ok (.iload_n 1, 1) := dk_27 (dk_at dksX10_doDay_4 21 rfl rfl)
theorem dX10_doDay_117 : decode cX10_doDay 117 = .ok (.iastore, 1) := dk_79 (dk_at dksX10_doDay_4 22 rfl rfl)
theorem dX10_doDay_118 : decode cX10_doDay 118 = .ok (.aload_n 0, 1) := dk_42 (dk_at dksX10_doDay_4 23 rfl rfl)
theorem dX10_doDay_119 : decode cX10_doDay 119 = .ok (.getfield 84, 3) := dk_180 0 84 (dk_at dksX10_doDay_5 0 rfl rfl)
theorem dX10_doDay_122 : decode cX10_doDay 122 = .ok (.iconst 1, 1) := dk_4 (dk_at dksX10_doDay_5 3 rfl rfl)
theorem dX10_doDay_123 : decode cX10_doDay 123 = .ok (.aload_n 0, 1) := dk_42 (dk_at dksX10_doDay_5 4 rfl rfl)
theorem dX10_doDay_124 : decode cX10_doDay 124 = .ok (.getfield 399, 3) := dk_180 1 143 (dk_at dksX10_doDay_5 5 rfl rfl)
theorem dX10_doDay_127 : decode cX10_doDay 127 = .ok (.iastore, 1) := dk_79 (dk_at dksX10_doDay_5 8 rfl rfl)
theorem dX10_doDay_128 : decode cX10_doDay 128 = .ok (.aload_n 0, 1) := dk_42 (dk_at dksX10_doDay_5 9 rfl rfl)
theorem dX10_doDay_129 : decode cX10_doDay 129 = .ok (.getfield 84, 3) := dk_180 0 84 (dk_at dksX10_doDay_5 10 rfl rfl)
theorem dX10_doDay_132 : decode cX10_doDay 132 = .ok (.iconst 2, 1) := dk_5 (dk_at dksX10_doDay_5 13 rfl rfl)
theorem dX10_doDay_133 : decode cX10_doDay 133 = .ok (.aload_n 0, 1) := dk_42 (dk_at dksX10_doDay_5 14 rfl rfl)
theorem dX10_doDay_134 : decode cX10_doDay 134 = .ok (.getfield 354, 3) := dk_180 1 98 (dk_at dksX10_doDay_5 15 rfl rfl)
theorem dX10_doDay_137 : decode cX10_doDay 137 = .ok (.iastore, 1) := dk_79 (dk_at dksX10_doDay_5 18 rfl rfl)
theorem dX10_doDay_138 : decode cX10_doDay 138 = .ok (.aload_n 0, 1) := dk_42 (dk_at dksX10_doDay_5 19 rfl rfl)
theorem dX10_doDay_139 : decode cX10_doDay 139 = .ok (.getfield 84, 3) := dk_180 0 84 (dk_at dksX10_doDay_5 20 rfl rfl)
theorem dX10_doDay_142 : decode cX10_doDay 142 = .ok (.iconst 3, 1) := dk_6 (dk_at dksX10_doDay_5 23 rfl rfl)
theorem dX10_doDay_143 : decode cX10_doDay 143 = .ok (.aload_n 0, 1) := dk_42 (dk_at dksX10_doDay_6 0 rfl rfl)
theorem dX10_doDay_144 : decode cX10_doDay 144 = .ok (.getfield 357, 3) := dk_180 1 101 (dk_at dksX10_doDay_6 1 rfl rfl)
theorem dX10_doDay_147 : decode cX10_doDay 147 = .ok (.iastore, 1) := dk_79 (dk_at dksX10_doDay_6 4 rfl rfl)
theorem dX10_doDay_148 : decode cX10_doDay 148 = .ok (.aload_n 0, 1) := dk_42 (dk_at dksX10_doDay_6 5 rfl rfl)
theorem dX10_doDay_149 : decode cX10_doDay 149 = .ok (.getfield 84, 3) := dk_180 0 84 (dk_at dksX10_doDay_6 6 rfl rfl)
theorem dX10_doDay_152 : decode cX10_doDay 152 = .ok (.iconst 4, 1) := dk_7 (dk_at dksX10_doDay_6 9 rfl rfl)
theorem dX10_doDay_153 : decode cX10_doDay 153 = .ok (.iload_n 3, 1) := dk_29 (dk_at dksX10_doDay_6 10 rfl rfl)
theorem dX10_doDay_154 : decode cX10_doDay 154 = .ok (.iastore, 1) := dk_79 (dk_at dksX10_doDay_6 11 rfl rfl)
theorem dX10_doDay_155 : decode cX10_doDay 155 = .ok (.iload_n 2, 1) := dk_28 (dk_at dksX10_doDay_6 12 rfl rfl)
theorem dX10_doDay_156 : decode cX10_doDay 156 = .ok (.ireturn, 1) := dk_172 (dk_at dksX10_doDay_6 13 rfl rfl)
theorem fl_X10_84 : gFl "BitingDoorsModel" 84 [8] 48 := by
  intro args s hts hN ci hc
  simp only [List.mem_cons, List.not_mem_nil, or_false] at hc
  subst hc
  exact ⟨RX10, TX10, 64, "BitingDoorsModel", gCl_X10, in_X10, by decide, Or.inl (hts _ q1698), fun _ h => h⟩
theorem dn_X10_doDay : yX10_doDay.cls ≠ "java/lang/invoke/MethodHandle" ∧ yX10_doDay.cls ≠ "java/lang/invoke/VarHandle" ∧ (parseMethodDescriptor yX10_doDay.desc).map (fun d => d.parameters.length) = some 0 := by decide +kernel
noncomputable def M_X10_doDay  : TM Int32 := TM.bind (M_X10_takeNow) (fun v1 => TM.bind (sI 49 0) (fun _ => TM.bind (TM.loop (S := Int32 × Int32 × Int32) (E := Int32 × Int32) (fun s2 => TM.bind (tA 14 704 341) (fun v6 => if v6 ≤ s2.2.2 then TM.pure (Sum.inr (s2.1, s2.2.1)) else if s2.1 = 0 then TM.bind (tA 14 704 (342 + (2 * s2.2.2))) (fun v7 => TM.bind (tA 14 704 ((342 + (2 * s2.2.2)) + 1)) (fun v8 => TM.bind (M_X10_doAct v7 v8) (fun v9 => TM.bind ((if v9 = 0 then TM.pure s2.2.1 else TM.pure s2.2.2 : TM (Int32))) (fun u10 => TM.lv (s2.2.2 + 1) (fun v11 => TM.pure (Sum.inl (v9, u10, v11))))))) else TM.pure (Sum.inr (s2.1, s2.2.1)))) (0, (-1), 0)) (fun e5 => TM.bind (TM.loop (S := Int32 × Int32) (E := Int32) (fun s12 => TM.bind (M_X10_doors) (fun v16 => if v16 ≤ s12.2 then TM.pure (Sum.inr s12.1) else TM.bind (tA 43 10 s12.2) (fun v17 => TM.bind ((if v17 = 0 then TM.pure s12.1 else TM.lv (s12.1 ||| (1 <<< (s12.2 &&& 31))) (fun v20 => TM.pure v20) : TM (Int32))) (fun u18 => TM.lv (s12.2 + 1) (fun v19 => TM.pure (Sum.inl (u18, v19))))))) (0, 0)) (fun e15 => TM.bind (sA 48 5 0 e5.1) (fun _ => TM.bind (tI 49) (fun v21 => TM.bind (sA 48 5 1 v21) (fun _ => TM.bind (tI 45) (fun v22 => TM.bind (sA 48 5 2 v22) (fun _ => TM.bind (tI 46) (fun v23 => TM.bind (sA 48 5 3 v23) (fun _ => TM.bind (sA 48 5 4 e15) (fun _ => TM.pure e5.2))))))))))))
set_option maxHeartbeats 4000000 in
theorem ct_X10_doDay (G : gG) (am : Nat)  : gCtM G am yX10_doDay cX10_doDay 5 (some .int) 7 177 [.ref am] (M_X10_doDay) (fun x : Int32 => some (.int x)) := by
  refine gCtM.of (by decide) (Nat.le_of_ble_eq_true rfl) (fun K hn ms ms' r hG X hK hd ho => ?_)
  subst hG
  have X : gX K cX10_doDay 5 "BitingDoorsModel" "doDay" (some .int) 7 177 := X
  show V K 5 (mkM am hn ms) 0 [(0, .ref am)] []
  unfold M_X10_doDay at hd
  refine v_aload_n X dX10_doDay_0 0 0 rfl rfl ?_
  refine t_callV X hK hd (ct_X10_takeNow _ am) (lw_V q2144 q2146 qs77 q120 q2147) ⟨rfl, dn_X10_takeNow⟩ rfl ⟨by decide, by decide⟩ rfl (Nat.le_of_ble_eq_true rfl) dX10_doDay_1 (fun v1 ms hd => ?_)
  show V K 5 (mkM am hn ms) 4 [(0, .ref am)] []
  refine v_aload_n X dX10_doDay_4 0 0 rfl rfl ?_
  refine v_iconst (v := 0) X dX10_doDay_5 (by decide) ?_
  refine t_putI X hd rfl fp_X10_399 dX10_doDay_6 (fun ms hd => ?_)
  refine v_iconst (v := 0) X dX10_doDay_9 (by decide) ?_
  refine v_istore_n (lv2 := [(1, .int 0), (0, .ref am)]) X dX10_doDay_10 1 rfl (by decide) rfl ?_
  refine v_iconst (v := (-1)) X dX10_doDay_11 (by decide) ?_
  refine v_istore_n (lv2 := [(2, .int (-1)), (1, .int 0), (0, .ref am)]) X dX10_doDay_12 2 rfl (by decide) rfl ?_
  refine v_iconst (v := 0) X dX10_doDay_13 (by decide) ?_
  refine v_istore_n (lv2 := [(3, .int 0), (2, .int (-1)), (1, .int 0), (0, .ref am)]) X dX10_doDay_14 3 rfl (by decide) rfl ?_
  obtain ⟨e5, m1, hd, hd2⟩ := TM.bind_some hd
  have KX : V K 5 (mkM am hn m1) 74 [(0, .ref am), (1, .int e5.1), (2, .int e5.2)] [] := by
    clear hd
    have hd := hd2
    refine v_iconst (v := 0) X dX10_doDay_74 (by decide) ?_
    refine v_istore_n (lv2 := [(3, .int 0), (0, .ref am), (1, .int e5.1), (2, .int e5.2)]) X dX10_doDay_75 3 rfl (by decide) rfl ?_
    refine v_iconst (v := 0) X dX10_doDay_76 (by decide) ?_
    refine v_istore (lv2 := [(4, .int 0), (3, .int 0), (0, .ref am), (1, .int e5.1), (2, .int e5.2)]) X dX10_doDay_77 (by decide) rfl ?_
    obtain ⟨e15, m1, hd, hd2⟩ := TM.bind_some hd
    have KX : V K 5 (mkM am hn m1) 111 [(0, .ref am), (1, .int e5.1), (2, .int e5.2), (3, .int e15)] [] := by
      clear hd
      have hd := hd2
      refine v_aload_n X dX10_doDay_111 0 0 rfl rfl ?_
      refine t_getA (j := 24) X rfl fl_X10_84 dX10_doDay_112 ?_
      refine v_iconst (v := 0) X dX10_doDay_115 (by decide) ?_
      refine v_iload_n X dX10_doDay_116 1 1 rfl rfl ?_
      refine t_iast (j := 24) X hd rfl dX10_doDay_117 (fun ms hd => ?_)
      refine v_aload_n X dX10_doDay_118 0 0 rfl rfl ?_
      refine t_getA (j := 24) X rfl fl_X10_84 dX10_doDay_119 ?_
      refine v_iconst (v := 1) X dX10_doDay_122 (by decide) ?_
      refine v_aload_n X dX10_doDay_123 0 0 rfl rfl ?_
      refine t_getI X hd rfl fl_X10_399 dX10_doDay_124 (fun v21 hd => ?_)
      refine t_iast (j := 24) X hd rfl dX10_doDay_127 (fun ms hd => ?_)
      refine v_aload_n X dX10_doDay_128 0 0 rfl rfl ?_
      refine t_getA (j := 24) X rfl fl_X10_84 dX10_doDay_129 ?_
      refine v_iconst (v := 2) X dX10_doDay_132 (by decide) ?_
      refine v_aload_n X dX10_doDay_133 0 0 rfl rfl ?_
      refine t_getI X hd rfl fl_X10_354 dX10_doDay_134 (fun v22 hd => ?_)
      refine t_iast (j := 24) X hd rfl dX10_doDay_137 (fun ms hd => ?_)
      refine v_aload_n X dX10_doDay_138 0 0 rfl rfl ?_
      refine t_getA (j := 24) X rfl fl_X10_84 dX10_doDay_139 ?_
      refine v_iconst (v := 3) X dX10_doDay_142 (by decide) ?_
      refine v_aload_n X dX10_doDay_143 0 0 rfl rfl ?_
      refine t_getI X hd rfl fl_X10_357 dX10_doDay_144 (fun v23 hd => ?_)
      refine t_iast (j := 24) X hd rfl dX10_doDay_147 (fun ms hd => ?_)
      refine v_aload_n X dX10_doDay_148 0 0 rfl rfl ?_
      refine t_getA (j := 24) X rfl fl_X10_84 dX10_doDay_149 ?_
      refine v_iconst (v := 4) X dX10_doDay_152 (by decide) ?_
      refine v_iload_n X dX10_doDay_153 3 3 rfl rfl ?_
      refine t_iast (j := 24) X hd rfl dX10_doDay_154 (fun ms hd => ?_)
      refine v_iload_n X dX10_doDay_155 2 2 rfl rfl ?_
      exact t_iret X hK hd ho dX10_doDay_156
    clear hd2
    refine v_loc [2, 3, 4, 1, 0] rfl ?_
    refine Tloop_ind hd (fun (s12 : Int32 × Int32) m => V K 5 (mkM am hn m) 79 [(0, .ref am), (1, .int e5.1), (2, .int e5.2), (3, .int s12.1), (4, .int s12.2)] []) (fun s12 ms x m2 hd ih13 ho14 => ?_)
    refine v_iload X dX10_doDay_79 4 rfl ?_
    refine v_aload_n X dX10_doDay_81 0 0 rfl rfl ?_
    refine t_callV X hK hd (ct_X10_doors _ am) (lw_V q1986 q1988 qs57 q120 q1989) ⟨rfl, dn_X10_doors⟩ rfl ⟨by decide, by decide⟩ rfl (Nat.le_of_ble_eq_true rfl) dX10_doDay_82 (fun v16 ms hd => ?_)
    show V K 5 (mkM am hn ms) 85 [(0, .ref am), (1, .int e5.1), (2, .int e5.2), (3, .int s12.1), (4, .int s12.2)] [.int v16, .int s12.2]
    refine v_icmp_ge (tgt := 111) X dX10_doDay_85 (by decide) (fun q => ?_) (fun q => ?_)
    · have hd := Tite_t q hd
      exact v_loc [0, 1, 2, 3] rfl (t_at (P := fun (e15 : Int32) m => V K 5 (mkM am hn m) 111 [(0, .ref am), (1, .int e5.1), (2, .int e5.2), (3, .int e15)] []) (Tlp_out hd ho14) KX)
    · have hd := Tite_f q hd
      refine v_aload_n X dX10_doDay_88 0 0 rfl rfl ?_
      refine t_getA (j := 22) X rfl fl_X10_78 dX10_doDay_89 ?_
      refine v_iload X dX10_doDay_92 4 rfl ?_
      refine t_iald (j := 22) X hd rfl dX10_doDay_94 (fun v17 hd => ?_)
      obtain ⟨u18, m1, hd, hd2⟩ := TM.bind_some hd
      have KJ : V K 5 (mkM am hn m1) 105 [(0, .ref am), (1, .int e5.1), (2, .int e5.2), (3, .int u18), (4, .int s12.2)] [] := by
        clear hd
        have hd := hd2
        refine t_iincL (lv2 := fun v19 => [(4, .int v19), (0, .ref am), (1, .int e5.1), (2, .int e5.2), (3, .int u18)]) X hd dX10_doDay_105 4 rfl (by decide : Int32.ofInt 1 = 1) (by decide) (fun v19 => rfl) (fun v19 hd => ?_)
        refine v_goto (tgt := 79) X dX10_doDay_108 (by decide) ?_
        exact v_loc [1, 2, 3, 4, 0] rfl (Tlp_in (P := fun (s12 : Int32 × Int32) m => V K 5 (mkM am hn m) 79 [(0, .ref am), (1, .int e5.1), (2, .int e5.2), (3, .int s12.1), (4, .int s12.2)] []) hd ih13)
      clear hd2
      refine v_if_eq (tgt := 105) X dX10_doDay_95 (by decide) (fun q => ?_) (fun q => ?_)
      · have hd := Tite_t q hd
        exact v_loc [0, 1, 2, 3, 4] rfl (t_at (P := fun (u18 : Int32) m => V K 5 (mkM am hn m) 105 [(0, .ref am), (1, .int e5.1), (2, .int e5.2), (3, .int u18), (4, .int s12.2)] []) hd KJ)
      · have hd := Tite_f q hd
        refine v_iload_n X dX10_doDay_98 3 3 rfl rfl ?_
        refine v_iconst (v := 1) X dX10_doDay_99 (by decide) ?_
        refine v_iload X dX10_doDay_100 4 rfl ?_
        refine v_ishl X dX10_doDay_102 ?_
        refine v_ior X dX10_doDay_103 ?_
        refine t_lvI hd (fun v20 hd => ?_)
        refine v_istore_n (lv2 := [(3, .int v20), (0, .ref am), (1, .int e5.1), (2, .int e5.2), (4, .int s12.2)]) X dX10_doDay_104 3 rfl (by decide) rfl ?_
        exact v_loc [1, 2, 3, 0, 4] rfl (t_at (P := fun (u18 : Int32) m => V K 5 (mkM am hn m) 105 [(0, .ref am), (1, .int e5.1), (2, .int e5.2), (3, .int u18), (4, .int s12.2)] []) hd KJ)
  clear hd2
  refine v_loc [3, 2, 1, 0] rfl ?_
  refine Tloop_ind hd (fun (s2 : Int32 × Int32 × Int32) m => V K 5 (mkM am hn m) 15 [(0, .ref am), (1, .int s2.1), (2, .int s2.2.1), (3, .int s2.2.2)] []) (fun s2 ms x m2 hd ih3 ho4 => ?_)
  refine v_iload_n X dX10_doDay_15 3 3 rfl rfl ?_
  refine v_aload_n X dX10_doDay_16 0 0 rfl rfl ?_
  refine t_getA (j := 1) X rfl fl_X10_13 dX10_doDay_17 ?_
  refine v_sipush (v := 341) X dX10_doDay_20 (by decide) ?_
  refine t_iald (j := 1) X hd rfl dX10_doDay_23 (fun v6 hd => ?_)
  refine v_icmp_ge (tgt := 74) X dX10_doDay_24 (by decide) (fun q => ?_) (fun q => ?_)
  · have hd := Tite_t q hd
    exact v_loc [0, 1, 2] rfl (t_at (P := fun (e5 : Int32 × Int32) m => V K 5 (mkM am hn m) 74 [(0, .ref am), (1, .int e5.1), (2, .int e5.2)] []) (Tlp_out hd ho4) KX)
  · have hd := Tite_f q hd
    refine v_iload_n X dX10_doDay_27 1 1 rfl rfl ?_
    refine v_if_ne (tgt := 74) X dX10_doDay_28 (by decide) (fun q => ?_) (fun q => ?_)
    · have hd := Tite_f q hd
      exact v_loc [0, 1, 2] rfl (t_at (P := fun (e5 : Int32 × Int32) m => V K 5 (mkM am hn m) 74 [(0, .ref am), (1, .int e5.1), (2, .int e5.2)] []) (Tlp_out hd ho4) KX)
    · have hd := Tite_t q hd
      refine v_aload_n X dX10_doDay_31 0 0 rfl rfl ?_
      refine v_aload_n X dX10_doDay_32 0 0 rfl rfl ?_
      refine t_getA (j := 1) X rfl fl_X10_13 dX10_doDay_33 ?_
      refine v_sipush (v := 342) X dX10_doDay_36 (by decide) ?_
      refine v_iconst (v := 2) X dX10_doDay_39 (by decide) ?_
      refine v_iload_n X dX10_doDay_40 3 3 rfl rfl ?_
      refine v_imul X dX10_doDay_41 ?_
      refine v_iadd X dX10_doDay_42 ?_
      refine t_iald (j := 1) X hd rfl dX10_doDay_43 (fun v7 hd => ?_)
      refine v_aload_n X dX10_doDay_44 0 0 rfl rfl ?_
      refine t_getA (j := 1) X rfl fl_X10_13 dX10_doDay_45 ?_
      refine v_sipush (v := 342) X dX10_doDay_48 (by decide) ?_
      refine v_iconst (v := 2) X dX10_doDay_51 (by decide) ?_
      refine v_iload_n X dX10_doDay_52 3 3 rfl rfl ?_
      refine v_imul X dX10_doDay_53 ?_
      refine v_iadd X dX10_doDay_54 ?_
      refine v_iconst (v := 1) X dX10_doDay_55 (by decide) ?_
      refine v_iadd X dX10_doDay_56 ?_
      refine t_iald (j := 1) X hd rfl dX10_doDay_57 (fun v8 hd => ?_)
      refine t_callV X hK hd (ct_X10_doAct _ am v7 v8) (lw_V q2216 q2218 qs90 q120 q2219) ⟨rfl, dn_X10_doAct⟩ rfl ⟨by decide, by decide⟩ rfl (Nat.le_of_ble_eq_true rfl) dX10_doDay_58 (fun v9 ms hd => ?_)
      show V K 5 (mkM am hn ms) 61 [(0, .ref am), (1, .int s2.1), (2, .int s2.2.1), (3, .int s2.2.2)] [.int v9]
      refine v_istore_n (lv2 := [(1, .int v9), (0, .ref am), (2, .int s2.2.1), (3, .int s2.2.2)]) X dX10_doDay_61 1 rfl (by decide) rfl ?_
      refine v_iload_n X dX10_doDay_62 0 1 rfl rfl ?_
      obtain ⟨u10, m1, hd, hd2⟩ := TM.bind_some hd
      have KJ : V K 5 (mkM am hn m1) 68 [(0, .ref am), (1, .int v9), (2, .int u10), (3, .int s2.2.2)] [] := by
        clear hd
        have hd := hd2
        refine t_iincL (lv2 := fun v11 => [(3, .int v11), (0, .ref am), (1, .int v9), (2, .int u10)]) X hd dX10_doDay_68 3 rfl (by decide : Int32.ofInt 1 = 1) (by decide) (fun v11 => rfl) (fun v11 hd => ?_)
        refine v_goto (tgt := 15) X dX10_doDay_71 (by decide) ?_
        exact v_loc [1, 2, 3, 0] rfl (Tlp_in (P := fun (s2 : Int32 × Int32 × Int32) m => V K 5 (mkM am hn m) 15 [(0, .ref am), (1, .int s2.1), (2, .int s2.2.1), (3, .int s2.2.2)] []) hd ih3)
      clear hd2
      refine v_if_eq (tgt := 68) X dX10_doDay_63 (by decide) (fun q => ?_) (fun q => ?_)
      · have hd := Tite_t q hd
        exact v_loc [1, 0, 2, 3] rfl (t_at (P := fun (u10 : Int32) m => V K 5 (mkM am hn m) 68 [(0, .ref am), (1, .int v9), (2, .int u10), (3, .int s2.2.2)] []) hd KJ)
      · have hd := Tite_f q hd
        refine v_iload_n X dX10_doDay_66 3 3 rfl rfl ?_
        refine v_istore_n (lv2 := [(2, .int s2.2.2), (1, .int v9), (0, .ref am), (3, .int s2.2.2)]) X dX10_doDay_67 2 rfl (by decide) rfl ?_
        exact v_loc [2, 1, 0, 3] rfl (t_at (P := fun (u10 : Int32) m => V K 5 (mkM am hn m) 68 [(0, .ref am), (1, .int v9), (2, .int u10), (3, .int s2.2.2)] []) hd KJ)
def dkwX10_judge_0 : List UInt8 := [42, 3, 181, 0, 108, 42, 182, 1, 152, 172]
abbrev dktX10_judge_0 : List UInt8 := dkwX10_judge_0 ++ []
theorem dksX10_judge_0 : cX10_judge.data.toList.drop 0 = dktX10_judge_0 := by decide +kernel
theorem dX10_judge_0 : decode cX10_judge 0 = .ok (.aload_n 0, 1) := dk_42 (dk_at dksX10_judge_0 0 rfl rfl)
theorem dX10_judge_1 : decode cX10_judge 1 = .ok (.iconst 0, 1) := dk_3 (dk_at dksX10_judge_0 1 rfl rfl)
theorem dX10_judge_2 : decode cX10_judge 2 = .ok (.putfield 108, 3) := dk_181 0 108 (dk_at dksX10_judge_0 2 rfl rfl)
theorem dX10_judge_5 : decode cX10_judge 5 = .ok (.aload_n 0, 1) := dk_42 (dk_at dksX10_judge_0 5 rfl rfl)
theorem dX10_judge_6 : decode cX10_judge 6 = .ok (.invokevirtual 408, 3) := dk_182 1 152 (dk_at dksX10_judge_0 6 rfl rfl)
theorem dX10_judge_9 : decode cX10_judge 9 = .ok (.ireturn, 1) := dk_172 (dk_at dksX10_judge_0 9 rfl rfl)
theorem dn_X10_judge : yX10_judge.cls ≠ "java/lang/invoke/MethodHandle" ∧ yX10_judge.cls ≠ "java/lang/invoke/VarHandle" ∧ (parseMethodDescriptor yX10_judge.desc).map (fun d => d.parameters.length) = some 0 := by decide +kernel
noncomputable def M_X10_judge  : TM Int32 := TM.bind (sI 0 0) (fun _ => TM.bind (M_X10_doDay) (fun v1 => TM.pure v1))
set_option maxHeartbeats 4000000 in
theorem ct_X10_judge (G : gG) (am : Nat)  : gCtM G am yX10_judge cX10_judge 1 (some .int) 8 201 [.ref am] (M_X10_judge) (fun x : Int32 => some (.int x)) := by
  refine gCtM.of (by decide) (Nat.le_of_ble_eq_true rfl) (fun K hn ms ms' r hG X hK hd ho => ?_)
  subst hG
  have X : gX K cX10_judge 1 "BitingDoorsModel" "judge" (some .int) 8 201 := X
  show V K 1 (mkM am hn ms) 0 [(0, .ref am)] []
  unfold M_X10_judge at hd
  refine v_aload_n X dX10_judge_0 0 0 rfl rfl ?_
  refine v_iconst (v := 0) X dX10_judge_1 (by decide) ?_
  refine t_putI X hd rfl fp_X10_108 dX10_judge_2 (fun ms hd => ?_)
  refine v_aload_n X dX10_judge_5 0 0 rfl rfl ?_
  refine t_callV X hK hd (ct_X10_doDay _ am) (lw_V q2212 q2214 qs89 q120 q2215) ⟨rfl, dn_X10_doDay⟩ rfl ⟨by decide, by decide⟩ rfl (Nat.le_of_ble_eq_true rfl) dX10_judge_6 (fun v1 ms hd => ?_)
  show V K 1 (mkM am hn ms) 9 [(0, .ref am)] [.int v1]
  exact t_iret X hK hd ho dX10_judge_9
def dkwX10_has_0 : List UInt8 := [26, 27, 122, 4, 126, 4, 160, 0, 7, 4, 167, 0, 4, 3, 172]
abbrev dktX10_has_0 : List UInt8 := dkwX10_has_0 ++ []
theorem dksX10_has_0 : cX10_has.data.toList.drop 0 = dktX10_has_0 := by decide +kernel
theorem dX10_has_0 : decode cX10_has 0 = .ok (.iload_n 0, 1) := dk_26 (dk_at dksX10_has_0 0 rfl rfl)
theorem dX10_has_1 : decode cX10_has 1 = .ok (.iload_n 1, 1) := dk_27 (dk_at dksX10_has_0 1 rfl rfl)
theorem dX10_has_2 : decode cX10_has 2 = .ok (.ishr, 1) := dk_122 (dk_at dksX10_has_0 2 rfl rfl)
theorem dX10_has_3 : decode cX10_has 3 = .ok (.iconst 1, 1) := dk_4 (dk_at dksX10_has_0 3 rfl rfl)
theorem dX10_has_4 : decode cX10_has 4 = .ok (.iand, 1) := dk_126 (dk_at dksX10_has_0 4 rfl rfl)
theorem dX10_has_5 : decode cX10_has 5 = .ok (.iconst 1, 1) := dk_4 (dk_at dksX10_has_0 5 rfl rfl)
theorem dX10_has_6 : decode cX10_has 6 = .ok (.if_icmp .ne 7, 3) := dk_160 0 7 (dk_at dksX10_has_0 6 rfl rfl)
theorem dX10_has_9 : decode cX10_has 9 = .ok (.iconst 1, 1) := dk_4 (dk_at dksX10_has_0 9 rfl rfl)
theorem dX10_has_10 : decode cX10_has 10 = .ok (.goto 4, 3) := dk_167 0 4 (dk_at dksX10_has_0 10 rfl rfl)
theorem dX10_has_13 : decode cX10_has 13 = .ok (.iconst 0, 1) := dk_3 (dk_at dksX10_has_0 13 rfl rfl)
theorem dX10_has_14 : decode cX10_has 14 = .ok (.ireturn, 1) := dk_172 (dk_at dksX10_has_0 14 rfl rfl)
theorem dn_X10_has : yX10_has.cls ≠ "java/lang/invoke/MethodHandle" ∧ yX10_has.cls ≠ "java/lang/invoke/VarHandle" ∧ (parseMethodDescriptor yX10_has.desc).map (fun d => d.parameters.length) = some 2 := by decide +kernel
noncomputable def M_X10_has (p1 : Int32) (p2 : Int32) : TM Bool := TM.bind ((if ((p1 >>> (p2 &&& 31)) &&& 1) = 1 then TM.pure true else TM.pure false : TM (Bool))) (fun u1 => TM.pure u1)
set_option maxHeartbeats 4000000 in
theorem ct_X10_has (G : gG) (am : Nat) (p1 : Int32) (p2 : Int32) : gCtM G am yX10_has cX10_has 2 (some .boolean) 0 0 [.int p1, .int p2] (M_X10_has p1 p2) (fun x : Bool => some (.int (b2i x))) := by
  refine gCtM.of (by decide) (Nat.le_of_ble_eq_true rfl) (fun K hn ms ms' r hG X hK hd ho => ?_)
  subst hG
  have X : gX K cX10_has 2 "BitingDoorsModel" "has" (some .boolean) 0 0 := X
  show V K 2 (mkM am hn ms) 0 [(0, .int p1), (1, .int p2)] []
  unfold M_X10_has at hd
  refine v_iload_n X dX10_has_0 0 0 rfl rfl ?_
  refine v_iload_n X dX10_has_1 1 1 rfl rfl ?_
  refine v_ishr X dX10_has_2 ?_
  refine v_iconst (v := 1) X dX10_has_3 (by decide) ?_
  refine v_iand X dX10_has_4 ?_
  refine v_iconst (v := 1) X dX10_has_5 (by decide) ?_
  obtain ⟨u1, m1, hd, hd2⟩ := TM.bind_some hd
  have KJ : V K 2 (mkM am hn m1) 14 [] [.int (b2i u1)] := by
    clear hd
    have hd := hd2
    exact t_zret X hK hd rfl ho dX10_has_14
  clear hd2
  refine v_icmp_ne (tgt := 13) X dX10_has_6 (by decide) (fun q => ?_) (fun q => ?_)
  · have hd := Tite_f q hd
    refine v_iconst (v := 0) X dX10_has_13 (by decide) ?_
    exact v_loc [] rfl (t_at (P := fun (u1 : Bool) m => V K 2 (mkM am hn m) 14 [] [.int (b2i u1)]) hd KJ)
  · have hd := Tite_t q hd
    refine v_iconst (v := 1) X dX10_has_9 (by decide) ?_
    refine v_goto (tgt := 14) X dX10_has_10 (by decide) ?_
    exact v_loc [] rfl (t_at (P := fun (u1 : Bool) m => V K 2 (mkM am hn m) 14 [] [.int (b2i u1)]) hd KJ)
def dkwX10_bite_2 : List UInt8 := [127, 9, 148, 153, 0, 7, 4, 167, 0, 4, 3, 172]
abbrev dktX10_bite_2 : List UInt8 := dkwX10_bite_2 ++ []
def dkwX10_bite_1 : List UInt8 := [154, 0, 30, 42, 180, 0, 48, 7, 27, 104, 28, 96, 47, 42, 180, 0, 48, 7, 29, 104, 21, 4, 96, 47]
abbrev dktX10_bite_1 : List UInt8 := dkwX10_bite_1 ++ dktX10_bite_2
def dkwX10_bite_0 : List UInt8 := [42, 180, 0, 45, 7, 27, 104, 28, 96, 47, 42, 180, 0, 45, 7, 29, 104, 21, 4, 96, 47, 127, 9, 148]
abbrev dktX10_bite_0 : List UInt8 := dkwX10_bite_0 ++ dktX10_bite_1
theorem dksX10_bite_0 : cX10_bite.data.toList.drop 0 = dktX10_bite_0 := by decide +kernel
theorem dksX10_bite_1 : cX10_bite.data.toList.drop 24 = dktX10_bite_1 := dk_seg dksX10_bite_0 24 rfl rfl
theorem dksX10_bite_2 : cX10_bite.data.toList.drop 48 = dktX10_bite_2 := dk_seg dksX10_bite_1 24 rfl rfl
theorem dX10_bite_0 : decode cX10_bite 0 = .ok (.aload_n 0, 1) := dk_42 (dk_at dksX10_bite_0 0 rfl rfl)
theorem dX10_bite_1 : decode cX10_bite 1 = .ok (.getfield 45, 3) := dk_180 0 45 (dk_at dksX10_bite_0 1 rfl rfl)
theorem dX10_bite_4 : decode cX10_bite 4 = .ok (.iconst 4, 1) := dk_7 (dk_at dksX10_bite_0 4 rfl rfl)
theorem dX10_bite_5 : decode cX10_bite 5 = .ok (.iload_n 1, 1) := dk_27 (dk_at dksX10_bite_0 5 rfl rfl)
theorem dX10_bite_6 : decode cX10_bite 6 = .ok (.imul, 1) := dk_104 (dk_at dksX10_bite_0 6 rfl rfl)
theorem dX10_bite_7 : decode cX10_bite 7 = .ok (.iload_n 2, 1) := dk_28 (dk_at dksX10_bite_0 7 rfl rfl)
theorem dX10_bite_8 : decode cX10_bite 8 = .ok (.iadd, 1) := dk_96 (dk_at dksX10_bite_0 8 rfl rfl)
theorem dX10_bite_9 : decode cX10_bite 9 = .ok (.laload, 1) := dk_47 (dk_at dksX10_bite_0 9 rfl rfl)
theorem dX10_bite_10 : decode cX10_bite 10 = .ok (.aload_n 0, 1) := dk_42 (dk_at dksX10_bite_0 10 rfl rfl)
theorem dX10_bite_11 : decode cX10_bite 11 = .ok (.getfield 45, 3) := dk_180 0 45 (dk_at dksX10_bite_0 11 rfl rfl)
theorem dX10_bite_14 : decode cX10_bite 14 = .ok (.iconst 4, 1) := dk_7 (dk_at dksX10_bite_0 14 rfl rfl)
theorem dX10_bite_15 : decode cX10_bite 15 = .ok (.iload_n 3, 1) := dk_29 (dk_at dksX10_bite_0 15 rfl rfl)
theorem dX10_bite_16 : decode cX10_bite 16 = .ok (.imul, 1) := dk_104 (dk_at dksX10_bite_0 16 rfl rfl)
theorem dX10_bite_17 : decode cX10_bite 17 = .ok (.iload 4, 2) := dk_21 4 (dk_at dksX10_bite_0 17 rfl rfl)
theorem dX10_bite_19 : decode cX10_bite 19 = .ok (.iadd, 1) := dk_96 (dk_at dksX10_bite_0 19 rfl rfl)
theorem dX10_bite_20 : decode cX10_bite 20 = .ok (.laload, 1) := dk_47 (dk_at dksX10_bite_0 20 rfl rfl)
theorem dX10_bite_21 : decode cX10_bite 21 = .ok (.land, 1) := dk_127 (dk_at dksX10_bite_0 21 rfl rfl)
theorem dX10_bite_22 : decode cX10_bite 22 = .ok (.lconst 0, 1) := dk_9 (dk_at dksX10_bite_0 22 rfl rfl)
theorem dX10_bite_23 : decode cX10_bite 23 = .ok (.lcmp, 1) := dk_148 (dk_at dksX10_bite_0 23 rfl rfl)
theorem dX10_bite_24 : decode cX10_bite 24 = .ok (.ifCond .ne 30, 3) := dk_154 0 30 (dk_at dksX10_bite_1 0 rfl rfl)
theorem dX10_bite_27 : decode cX10_bite 27 = .ok (.aload_n 0, 1) := dk_42 (dk_at dksX10_bite_1 3 rfl rfl)
theorem dX10_bite_28 : decode cX10_bite 28 = .ok (.getfield 48, 3) := dk_180 0 48 (dk_at dksX10_bite_1 4 rfl rfl)
theorem dX10_bite_31 : decode cX10_bite 31 = .ok (.iconst 4, 1) := dk_7 (dk_at dksX10_bite_1 7 rfl rfl)
theorem dX10_bite_32 : decode cX10_bite 32 = .ok (.iload_n 1, 1) := dk_27 (dk_at dksX10_bite_1 8 rfl rfl)
theorem dX10_bite_33 : decode cX10_bite 33 = .ok (.imul, 1) := dk_104 (dk_at dksX10_bite_1 9 rfl rfl)
theorem dX10_bite_34 : decode cX10_bite 34 = .ok (.iload_n 2, 1) := dk_28 (dk_at dksX10_bite_1 10 rfl rfl)
theorem dX10_bite_35 : decode cX10_bite 35 = .ok (.iadd, 1) := dk_96 (dk_at dksX10_bite_1 11 rfl rfl)
theorem dX10_bite_36 : decode cX10_bite 36 = .ok (.laload, 1) := dk_47 (dk_at dksX10_bite_1 12 rfl rfl)
theorem dX10_bite_37 : decode cX10_bite 37 = .ok (.aload_n 0, 1) := dk_42 (dk_at dksX10_bite_1 13 rfl rfl)
theorem dX10_bite_38 : decode cX10_bite 38 = .ok (.getfield 48, 3) := dk_180 0 48 (dk_at dksX10_bite_1 14 rfl rfl)
theorem dX10_bite_41 : decode cX10_bite 41 = .ok (.iconst 4, 1) := dk_7 (dk_at dksX10_bite_1 17 rfl rfl)
theorem dX10_bite_42 : decode cX10_bite 42 = .ok (.iload_n 3, 1) := dk_29 (dk_at dksX10_bite_1 18 rfl rfl)
theorem dX10_bite_43 : decode cX10_bite 43 = .ok (.imul, 1) := dk_104 (dk_at dksX10_bite_1 19 rfl rfl)
theorem dX10_bite_44 : decode cX10_bite 44 = .ok (.iload 4, 2) := dk_21 4 (dk_at dksX10_bite_1 20 rfl rfl)
theorem dX10_bite_46 : decode cX10_bite 46 = .ok (.iadd, 1) := dk_96 (dk_at dksX10_bite_1 22 rfl rfl)
theorem dX10_bite_47 : decode cX10_bite 47 = .ok (.laload, 1) := dk_47 (dk_at dksX10_bite_1 23 rfl rfl)
theorem dX10_bite_48 : decode cX10_bite 48 = .ok (.land, 1) := dk_127 (dk_at dksX10_bite_2 0 rfl rfl)
theorem dX10_bite_49 : decode cX10_bite 49 = .ok (.lconst 0, 1) := dk_9 (dk_at dksX10_bite_2 1 rfl rfl)
theorem dX10_bite_50 : decode cX10_bite 50 = .ok (.lcmp, 1) := dk_148 (dk_at dksX10_bite_2 2 rfl rfl)
theorem dX10_bite_51 : decode cX10_bite 51 = .ok (.ifCond .eq 7, 3) := dk_153 0 7 (dk_at dksX10_bite_2 3 rfl rfl)
theorem dX10_bite_54 : decode cX10_bite 54 = .ok (.iconst 1, 1) := dk_4 (dk_at dksX10_bite_2 6 rfl rfl)
theorem dX10_bite_55 : decode cX10_bite 55 = .ok (.goto 4, 3) := dk_167 0 4 (dk_at dksX10_bite_2 7 rfl rfl)
theorem dX10_bite_58 : decode cX10_bite 58 = .ok (.iconst 0, 1) := dk_3 (dk_at dksX10_bite_2 10 rfl rfl)
theorem dX10_bite_59 : decode cX10_bite 59 = .ok (.ireturn, 1) := dk_172 (dk_at dksX10_bite_2 11 rfl rfl)
theorem fl_X10_45 : gFl "BitingDoorsModel" 45 [8] 27 := by
  intro args s hts hN ci hc
  simp only [List.mem_cons, List.not_mem_nil, or_false] at hc
  subst hc
  exact ⟨RX10, TX10, 64, "BitingDoorsModel", gCl_X10, in_X10, by decide, Or.inl (hts _ q1677), fun _ h => h⟩
theorem fl_X10_48 : gFl "BitingDoorsModel" 48 [8] 28 := by
  intro args s hts hN ci hc
  simp only [List.mem_cons, List.not_mem_nil, or_false] at hc
  subst hc
  exact ⟨RX10, TX10, 64, "BitingDoorsModel", gCl_X10, in_X10, by decide, Or.inl (hts _ q1678), fun _ h => h⟩
theorem dn_X10_bite : yX10_bite.cls ≠ "java/lang/invoke/MethodHandle" ∧ yX10_bite.cls ≠ "java/lang/invoke/VarHandle" ∧ (parseMethodDescriptor yX10_bite.desc).map (fun d => d.parameters.length) = some 4 := by decide +kernel
noncomputable def M_X10_bite (p1 : Int32) (p2 : Int32) (p3 : Int32) (p4 : Int32) : TM Bool := TM.bind (tB 27 40 ((4 * p1) + p2)) (fun v1 => TM.bind (tB 27 40 ((4 * p3) + p4)) (fun v2 => TM.bind ((if (lg_cmp (v1 &&& v2) 0) = 0 then TM.bind (tB 28 40 ((4 * p1) + p2)) (fun v4 => TM.bind (tB 28 40 ((4 * p3) + p4)) (fun v5 => if (lg_cmp (v4 &&& v5) 0) = 0 then TM.pure false else TM.pure true)) else TM.pure true : TM (Bool))) (fun u3 => TM.pure u3)))
set_option maxHeartbeats 4000000 in
theorem ct_X10_bite (G : gG) (am : Nat) (p1 : Int32) (p2 : Int32) (p3 : Int32) (p4 : Int32) : gCtM G am yX10_bite cX10_bite 5 (some .boolean) 0 0 [.ref am, .int p1, .int p2, .int p3, .int p4] (M_X10_bite p1 p2 p3 p4) (fun x : Bool => some (.int (b2i x))) := by
  refine gCtM.of (by decide) (Nat.le_of_ble_eq_true rfl) (fun K hn ms ms' r hG X hK hd ho => ?_)
  subst hG
  have X : gX K cX10_bite 5 "BitingDoorsModel" "bite" (some .boolean) 0 0 := X
  show V K 5 (mkM am hn ms) 0 [(0, .ref am), (1, .int p1), (2, .int p2), (3, .int p3), (4, .int p4)] []
  unfold M_X10_bite at hd
  refine v_aload_n X dX10_bite_0 0 0 rfl rfl ?_
  refine t_getA (j := 11) X rfl fl_X10_45 dX10_bite_1 ?_
  refine v_iconst (v := 4) X dX10_bite_4 (by decide) ?_
  refine v_iload_n X dX10_bite_5 1 1 rfl rfl ?_
  refine v_imul X dX10_bite_6 ?_
  refine v_iload_n X dX10_bite_7 2 2 rfl rfl ?_
  refine v_iadd X dX10_bite_8 ?_
  refine t_lald (j := 11) X hd rfl dX10_bite_9 (fun v1 hd => ?_)
  refine v_aload_n X dX10_bite_10 0 0 rfl rfl ?_
  refine t_getA (j := 11) X rfl fl_X10_45 dX10_bite_11 ?_
  refine v_iconst (v := 4) X dX10_bite_14 (by decide) ?_
  refine v_iload_n X dX10_bite_15 3 3 rfl rfl ?_
  refine v_imul X dX10_bite_16 ?_
  refine v_iload X dX10_bite_17 4 rfl ?_
  refine v_iadd X dX10_bite_19 ?_
  refine t_lald (j := 11) X hd rfl dX10_bite_20 (fun v2 hd => ?_)
  refine v_land X dX10_bite_21 ?_
  refine v_lconst (v := 0) X dX10_bite_22 (by decide) ?_
  refine v_lcmp X dX10_bite_23 ?_
  obtain ⟨u3, m1, hd, hd2⟩ := TM.bind_some hd
  have KJ : V K 5 (mkM am hn m1) 59 [] [.int (b2i u3)] := by
    clear hd
    have hd := hd2
    exact t_zret X hK hd rfl ho dX10_bite_59
  clear hd2
  refine v_if_ne (tgt := 54) X dX10_bite_24 (by decide) (fun q => ?_) (fun q => ?_)
  · have hd := Tite_f q hd
    refine v_iconst (v := 1) X dX10_bite_54 (by decide) ?_
    refine v_goto (tgt := 59) X dX10_bite_55 (by decide) ?_
    exact v_loc [] rfl (t_at (P := fun (u3 : Bool) m => V K 5 (mkM am hn m) 59 [] [.int (b2i u3)]) hd KJ)
  · have hd := Tite_t q hd
    refine v_aload_n X dX10_bite_27 0 0 rfl rfl ?_
    refine t_getA (j := 12) X rfl fl_X10_48 dX10_bite_28 ?_
    refine v_iconst (v := 4) X dX10_bite_31 (by decide) ?_
    refine v_iload_n X dX10_bite_32 1 1 rfl rfl ?_
    refine v_imul X dX10_bite_33 ?_
    refine v_iload_n X dX10_bite_34 2 2 rfl rfl ?_
    refine v_iadd X dX10_bite_35 ?_
    refine t_lald (j := 12) X hd rfl dX10_bite_36 (fun v4 hd => ?_)
    refine v_aload_n X dX10_bite_37 0 0 rfl rfl ?_
    refine t_getA (j := 12) X rfl fl_X10_48 dX10_bite_38 ?_
    refine v_iconst (v := 4) X dX10_bite_41 (by decide) ?_
    refine v_iload_n X dX10_bite_42 3 3 rfl rfl ?_
    refine v_imul X dX10_bite_43 ?_
    refine v_iload X dX10_bite_44 4 rfl ?_
    refine v_iadd X dX10_bite_46 ?_
    refine t_lald (j := 12) X hd rfl dX10_bite_47 (fun v5 hd => ?_)
    refine v_land X dX10_bite_48 ?_
    refine v_lconst (v := 0) X dX10_bite_49 (by decide) ?_
    refine v_lcmp X dX10_bite_50 ?_
    refine v_if_eq (tgt := 58) X dX10_bite_51 (by decide) (fun q => ?_) (fun q => ?_)
    · have hd := Tite_t q hd
      refine v_iconst (v := 0) X dX10_bite_58 (by decide) ?_
      exact v_loc [] rfl (t_at (P := fun (u3 : Bool) m => V K 5 (mkM am hn m) 59 [] [.int (b2i u3)]) hd KJ)
    · have hd := Tite_f q hd
      refine v_iconst (v := 1) X dX10_bite_54 (by decide) ?_
      refine v_goto (tgt := 59) X dX10_bite_55 (by decide) ?_
      exact v_loc [] rfl (t_at (P := fun (u3 : Bool) m => V K 5 (mkM am hn m) 59 [] [.int (b2i u3)]) hd KJ)
def dkwX10_mayHang_1 : List UInt8 := [180, 0, 54, 21, 4, 46, 182, 1, 42, 153, 0, 5, 3, 172, 132, 4, 1, 167, 255, 218, 4, 172]
abbrev dktX10_mayHang_1 : List UInt8 := dkwX10_mayHang_1 ++ []
def dkwX10_mayHang_0 : List UInt8 := [3, 54, 4, 21, 4, 27, 162, 0, 38, 29, 21, 4, 184, 0, 231, 153, 0, 23, 42, 27, 28, 21, 4, 42]
abbrev dktX10_mayHang_0 : List UInt8 := dkwX10_mayHang_0 ++ dktX10_mayHang_1
theorem dksX10_mayHang_0 : cX10_mayHang.data.toList.drop 0 = dktX10_mayHang_0 := by decide +kernel
theorem dksX10_mayHang_1 : cX10_mayHang.data.toList.drop 24 = dktX10_mayHang_1 := dk_seg dksX10_mayHang_0 24 rfl rfl
theorem dX10_mayHang_0 : decode cX10_mayHang 0 = .ok (.iconst 0, 1) := dk_3 (dk_at dksX10_mayHang_0 0 rfl rfl)
theorem dX10_mayHang_1 : decode cX10_mayHang 1 = .ok (.istore 4, 2) := dk_54 4 (dk_at dksX10_mayHang_0 1 rfl rfl)
theorem dX10_mayHang_3 : decode cX10_mayHang 3 = .ok (.iload 4, 2) := dk_21 4 (dk_at dksX10_mayHang_0 3 rfl rfl)
theorem dX10_mayHang_5 : decode cX10_mayHang 5 = .ok (.iload_n 1, 1) := dk_27 (dk_at dksX10_mayHang_0 5 rfl rfl)
theorem dX10_mayHang_6 : decode cX10_mayHang 6 = .ok (.if_icmp .ge 38, 3) := dk_162 0 38 (dk_at dksX10_mayHang_0 6 rfl rfl)
theorem dX10_mayHang_9 : decode cX10_mayHang 9 = .ok (.iload_n 3, 1) := dk_29 (dk_at dksX10_mayHang_0 9 rfl rfl)
theorem dX10_mayHang_10 : decode cX10_mayHang 10 = .ok (.iload 4, 2) := dk_21 4 (dk_at dksX10_mayHang_0 10 rfl rfl)
theorem dX10_mayHang_12 : decode cX10_mayHang 12 = .ok (.invokestatic 231, 3) := dk_184 0 231 (dk_at dksX10_mayHang_0 12 rfl rfl)
theorem dX10_mayHang_15 : decode cX10_mayHang 15 = .ok (.ifCond .eq 23, 3) := dk_153 0 23 (dk_at dksX10_mayHang_0 15 rfl rfl)
theorem dX10_mayHang_18 : decode cX10_mayHang 18 = .ok (.aload_n 0, 1) := dk_42 (dk_at dksX10_mayHang_0 18 rfl rfl)
theorem dX10_mayHang_19 : decode cX10_mayHang 19 = .ok (.iload_n 1, 1) := dk_27 (dk_at dksX10_mayHang_0 19 rfl rfl)
theorem dX10_mayHang_20 : decode cX10_mayHang 20 = .ok (.iload_n 2, 1) := dk_28 (dk_at dksX10_mayHang_0 20 rfl rfl)
theorem dX10_mayHang_21 : decode cX10_mayHang 21 = .ok (.iload 4, 2) := dk_21 4 (dk_at dksX10_mayHang_0 21 rfl rfl)
theorem dX10_mayHang_23 : decode cX10_mayHang 23 = .ok (.aload_n 0, 1) := dk_42 (dk_at dksX10_mayHang_0 23 rfl rfl)
theorem dX10_mayHang_24 : decode cX10_mayHang 24 = .ok (.getfield 54, 3) := dk_180 0 54 (dk_at dksX10_mayHang_1 0 rfl rfl)
theorem dX10_mayHang_27 : decode cX10_mayHang 27 = .ok (.iload 4, 2) := dk_21 4 (dk_at dksX10_mayHang_1 3 rfl rfl)
theorem dX10_mayHang_29 : decode cX10_mayHang 29 = .ok (.iaload, 1) := dk_46 (dk_at dksX10_mayHang_1 5 rfl rfl)
theorem dX10_mayHang_30 : decode cX10_mayHang 30 = .ok (.invokevirtual 298, 3) := dk_182 1 42 (dk_at dksX10_mayHang_1 6 rfl rfl)
theorem dX10_mayHang_33 : decode cX10_mayHang 33 = .ok (.ifCond .eq 5, 3) := dk_153 0 5 (dk_at dksX10_mayHang_1 9 rfl rfl)
theorem dX10_mayHang_36 : decode cX10_mayHang 36 = .ok (.iconst 0, 1) := dk_3 (dk_at dksX10_mayHang_1 12 rfl rfl)
theorem dX10_mayHang_37 : decode cX10_mayHang 37 = .ok (.ireturn, 1) := dk_172 (dk_at dksX10_mayHang_1 13 rfl rfl)
theorem dX10_mayHang_38 : decode cX10_mayHang 38 = .ok (.iinc 4 1, 3) := dk_132 4 1 (dk_at dksX10_mayHang_1 14 rfl rfl)
theorem dX10_mayHang_41 : decode cX10_mayHang 41 = .ok (.goto (-38), 3) := dk_167 255 218 (dk_at dksX10_mayHang_1 17 rfl rfl)
theorem dX10_mayHang_44 : decode cX10_mayHang 44 = .ok (.iconst 1, 1) := dk_4 (dk_at dksX10_mayHang_1 20 rfl rfl)
theorem dX10_mayHang_45 : decode cX10_mayHang 45 = .ok (.ireturn, 1) := dk_172 (dk_at dksX10_mayHang_1 21 rfl rfl)
theorem fl_X10_54 : gFl "BitingDoorsModel" 54 [8] 30 := by
  intro args s hts hN ci hc
  simp only [List.mem_cons, List.not_mem_nil, or_false] at hc
  subst hc
  exact ⟨RX10, TX10, 64, "BitingDoorsModel", gCl_X10, in_X10, by decide, Or.inl (hts _ q1680), fun _ h => h⟩
theorem dn_X10_mayHang : yX10_mayHang.cls ≠ "java/lang/invoke/MethodHandle" ∧ yX10_mayHang.cls ≠ "java/lang/invoke/VarHandle" ∧ (parseMethodDescriptor yX10_mayHang.desc).map (fun d => d.parameters.length) = some 3 := by decide +kernel
noncomputable def M_X10_mayHang (p1 : Int32) (p2 : Int32) (p3 : Int32) : TM Bool := TM.loop (S := Int32) (fun s1 => if p1 ≤ s1 then TM.pure (Sum.inr true) else TM.bind (M_X10_has p3 s1) (fun v4 => cond v4 (TM.bind (tA 30 10 s1) (fun v6 => TM.bind (M_X10_bite p1 p2 s1 v6) (fun v7 => cond v7 (TM.pure (Sum.inr false)) (TM.lv (s1 + 1) (fun v8 => TM.pure (Sum.inl v8)))))) (TM.lv (s1 + 1) (fun v5 => TM.pure (Sum.inl v5))))) 0
set_option maxHeartbeats 4000000 in
theorem ct_X10_mayHang (G : gG) (am : Nat) (p1 : Int32) (p2 : Int32) (p3 : Int32) : gCtM G am yX10_mayHang cX10_mayHang 5 (some .boolean) 1 24 [.ref am, .int p1, .int p2, .int p3] (M_X10_mayHang p1 p2 p3) (fun x : Bool => some (.int (b2i x))) := by
  refine gCtM.of (by decide) (Nat.le_of_ble_eq_true rfl) (fun K hn ms ms' r hG X hK hd ho => ?_)
  subst hG
  have X : gX K cX10_mayHang 5 "BitingDoorsModel" "mayHang" (some .boolean) 1 24 := X
  show V K 5 (mkM am hn ms) 0 [(0, .ref am), (1, .int p1), (2, .int p2), (3, .int p3)] []
  unfold M_X10_mayHang at hd
  refine v_iconst (v := 0) X dX10_mayHang_0 (by decide) ?_
  refine v_istore (lv2 := [(4, .int 0), (0, .ref am), (1, .int p1), (2, .int p2), (3, .int p3)]) X dX10_mayHang_1 (by decide) rfl ?_
  refine v_loc [1, 2, 3, 4, 0] rfl ?_
  refine Tloop_ind hd (fun (s1 : Int32) m => V K 5 (mkM am hn m) 3 [(0, .ref am), (1, .int p1), (2, .int p2), (3, .int p3), (4, .int s1)] []) (fun s1 ms x m2 hd ih2 ho3 => ?_)
  refine v_iload X dX10_mayHang_3 4 rfl ?_
  refine v_iload_n X dX10_mayHang_5 1 1 rfl rfl ?_
  refine v_icmp_ge (tgt := 44) X dX10_mayHang_6 (by decide) (fun q => ?_) (fun q => ?_)
  · have hd := Tite_t q hd
    refine v_iconst (v := 1) X dX10_mayHang_44 (by decide) ?_
    have hd := Tlp_out hd ho3
    exact t_zret X hK hd rfl ho dX10_mayHang_45
  · have hd := Tite_f q hd
    refine v_iload_n X dX10_mayHang_9 3 3 rfl rfl ?_
    refine v_iload X dX10_mayHang_10 4 rfl ?_
    refine t_callS X hK hd (ct_X10_has _ am p3 s1) (lw_S q1947 q1948 q120 q1949) dn_X10_has rfl ⟨by decide, by decide⟩ rfl (Nat.le_of_ble_eq_true rfl) dX10_mayHang_12 (fun v4 ms hd => ?_)
    show V K 5 (mkM am hn ms) 15 [(0, .ref am), (1, .int p1), (2, .int p2), (3, .int p3), (4, .int s1)] [.int (b2i v4)]
    refine v_ifZ_eq (tgt := 38) X dX10_mayHang_15 (by decide) (fun q => ?_) (fun q => ?_)
    · have hd := Tcnd_f q hd
      refine t_iincL (lv2 := fun v5 => [(4, .int v5), (0, .ref am), (1, .int p1), (2, .int p2), (3, .int p3)]) X hd dX10_mayHang_38 4 rfl (by decide : Int32.ofInt 1 = 1) (by decide) (fun v5 => rfl) (fun v5 hd => ?_)
      refine v_goto (tgt := 3) X dX10_mayHang_41 (by decide) ?_
      exact v_loc [1, 2, 3, 4, 0] rfl (Tlp_in (P := fun (s1 : Int32) m => V K 5 (mkM am hn m) 3 [(0, .ref am), (1, .int p1), (2, .int p2), (3, .int p3), (4, .int s1)] []) hd ih2)
    · have hd := Tcnd_t q hd
      refine v_aload_n X dX10_mayHang_18 0 0 rfl rfl ?_
      refine v_iload_n X dX10_mayHang_19 1 1 rfl rfl ?_
      refine v_iload_n X dX10_mayHang_20 2 2 rfl rfl ?_
      refine v_iload X dX10_mayHang_21 4 rfl ?_
      refine v_aload_n X dX10_mayHang_23 0 0 rfl rfl ?_
      refine t_getA (j := 14) X rfl fl_X10_54 dX10_mayHang_24 ?_
      refine v_iload X dX10_mayHang_27 4 rfl ?_
      refine t_iald (j := 14) X hd rfl dX10_mayHang_29 (fun v6 hd => ?_)
      refine t_callV X hK hd (ct_X10_bite _ am p1 p2 s1 v6) (lw_V q2049 q2051 qs67 q120 q2052) ⟨rfl, dn_X10_bite⟩ rfl ⟨by decide, by decide⟩ rfl (Nat.le_of_ble_eq_true rfl) dX10_mayHang_30 (fun v7 ms hd => ?_)
      show V K 5 (mkM am hn ms) 33 [(0, .ref am), (1, .int p1), (2, .int p2), (3, .int p3), (4, .int s1)] [.int (b2i v7)]
      refine v_ifZ_eq (tgt := 38) X dX10_mayHang_33 (by decide) (fun q => ?_) (fun q => ?_)
      · have hd := Tcnd_f q hd
        refine t_iincL (lv2 := fun v8 => [(4, .int v8), (0, .ref am), (1, .int p1), (2, .int p2), (3, .int p3)]) X hd dX10_mayHang_38 4 rfl (by decide : Int32.ofInt 1 = 1) (by decide) (fun v8 => rfl) (fun v8 hd => ?_)
        refine v_goto (tgt := 3) X dX10_mayHang_41 (by decide) ?_
        exact v_loc [1, 2, 3, 4, 0] rfl (Tlp_in (P := fun (s1 : Int32) m => V K 5 (mkM am hn m) 3 [(0, .ref am), (1, .int p1), (2, .int p2), (3, .int p3), (4, .int s1)] []) hd ih2)
      · have hd := Tcnd_t q hd
        refine v_iconst (v := 0) X dX10_mayHang_36 (by decide) ?_
        have hd := Tlp_out hd ho3
        exact t_zret X hK hd rfl ho dX10_mayHang_37
def dkwX10_weightOf_1 : List UInt8 := [16, 6, 182, 1, 11, 96, 172]
abbrev dktX10_weightOf_1 : List UInt8 := dkwX10_weightOf_1 ++ []
def dkwX10_weightOf_0 : List UInt8 := [28, 153, 0, 18, 16, 100, 42, 27, 16, 6, 182, 1, 11, 104, 4, 96, 167, 0, 14, 17, 39, 16, 42, 27]
abbrev dktX10_weightOf_0 : List UInt8 := dkwX10_weightOf_0 ++ dktX10_weightOf_1
theorem dksX10_weightOf_0 : cX10_weightOf.data.toList.drop 0 = dktX10_weightOf_0 := by decide +kernel
theorem dksX10_weightOf_1 : cX10_weightOf.data.toList.drop 24 = dktX10_weightOf_1 := dk_seg dksX10_weightOf_0 24 rfl rfl
theorem dX10_weightOf_0 : decode cX10_weightOf 0 = .ok (.iload_n 2, 1) := dk_28 (dk_at dksX10_weightOf_0 0 rfl rfl)
theorem dX10_weightOf_1 : decode cX10_weightOf 1 = .ok (.ifCond .eq 18, 3) := dk_153 0 18 (dk_at dksX10_weightOf_0 1 rfl rfl)
theorem dX10_weightOf_4 : decode cX10_weightOf 4 = .ok (.bipush 100, 2) := dk_16 100 (dk_at dksX10_weightOf_0 4 rfl rfl)
theorem dX10_weightOf_6 : decode cX10_weightOf 6 = .ok (.aload_n 0, 1) := dk_42 (dk_at dksX10_weightOf_0 6 rfl rfl)
theorem dX10_weightOf_7 : decode cX10_weightOf 7 = .ok (.iload_n 1, 1) := dk_27 (dk_at dksX10_weightOf_0 7 rfl rfl)
theorem dX10_weightOf_8 : decode cX10_weightOf 8 = .ok (.bipush 6, 2) := dk_16 6 (dk_at dksX10_weightOf_0 8 rfl rfl)
theorem dX10_weightOf_10 : decode cX10_weightOf 10 = .ok (.invokevirtual 267, 3) := dk_182 1 11 (dk_at dksX10_weightOf_0 10 rfl rfl)
theorem dX10_weightOf_13 : decode cX10_weightOf 13 = .ok (.imul, 1) := dk_104 (dk_at dksX10_weightOf_0 13 rfl rfl)
theorem dX10_weightOf_14 : decode cX10_weightOf 14 = .ok (.iconst 1, 1) := dk_4 (dk_at dksX10_weightOf_0 14 rfl rfl)
theorem dX10_weightOf_15 : decode cX10_weightOf 15 = .ok (.iadd, 1) := dk_96 (dk_at dksX10_weightOf_0 15 rfl rfl)
theorem dX10_weightOf_16 : decode cX10_weightOf 16 = .ok (.goto 14, 3) := dk_167 0 14 (dk_at dksX10_weightOf_0 16 rfl rfl)
theorem dX10_weightOf_19 : decode cX10_weightOf 19 = .ok (.sipush 10000, 3) := dk_17 39 16 (dk_at dksX10_weightOf_0 19 rfl rfl)
theorem dX10_weightOf_22 : decode cX10_weightOf 22 = .ok (.aload_n 0, 1) := dk_42 (dk_at dksX10_weightOf_0 22 rfl rfl)
theorem dX10_weightOf_23 : decode cX10_weightOf 23 = .ok (.iload_n 1, 1) := dk_27 (dk_at dksX10_weightOf_0 23 rfl rfl)
theorem dX10_weightOf_24 : decode cX10_weightOf 24 = .ok (.bipush 6, 2) := dk_16 6 (dk_at dksX10_weightOf_1 0 rfl rfl)
theorem dX10_weightOf_26 : decode cX10_weightOf 26 = .ok (.invokevirtual 267, 3) := dk_182 1 11 (dk_at dksX10_weightOf_1 2 rfl rfl)
theorem dX10_weightOf_29 : decode cX10_weightOf 29 = .ok (.iadd, 1) := dk_96 (dk_at dksX10_weightOf_1 5 rfl rfl)
theorem dX10_weightOf_30 : decode cX10_weightOf 30 = .ok (.ireturn, 1) := dk_172 (dk_at dksX10_weightOf_1 6 rfl rfl)
theorem dn_X10_weightOf : yX10_weightOf.cls ≠ "java/lang/invoke/MethodHandle" ∧ yX10_weightOf.cls ≠ "java/lang/invoke/VarHandle" ∧ (parseMethodDescriptor yX10_weightOf.desc).map (fun d => d.parameters.length) = some 2 := by decide +kernel
noncomputable def M_X10_weightOf (p1 : Int32) (p2 : Bool) : TM Int32 := TM.bind ((cond p2 (TM.bind (M_X10_of p1 6) (fun v3 => TM.pure ((100 * v3) + 1))) (TM.bind (M_X10_of p1 6) (fun v2 => TM.pure (10000 + v2))) : TM (Int32))) (fun u1 => TM.pure u1)
set_option maxHeartbeats 4000000 in
theorem ct_X10_weightOf (G : gG) (am : Nat) (p1 : Int32) (p2 : Bool) : gCtM G am yX10_weightOf cX10_weightOf 3 (some .int) 1 22 [.ref am, .int p1, .int (b2i p2)] (M_X10_weightOf p1 p2) (fun x : Int32 => some (.int x)) := by
  refine gCtM.of (by decide) (Nat.le_of_ble_eq_true rfl) (fun K hn ms ms' r hG X hK hd ho => ?_)
  subst hG
  have X : gX K cX10_weightOf 3 "BitingDoorsModel" "weightOf" (some .int) 1 22 := X
  show V K 3 (mkM am hn ms) 0 [(0, .ref am), (1, .int p1), (2, .int (b2i p2))] []
  unfold M_X10_weightOf at hd
  refine v_iload_n X dX10_weightOf_0 2 2 rfl rfl ?_
  obtain ⟨u1, m1, hd, hd2⟩ := TM.bind_some hd
  have KJ : V K 3 (mkM am hn m1) 30 [] [.int u1] := by
    clear hd
    have hd := hd2
    exact t_iret X hK hd ho dX10_weightOf_30
  clear hd2
  refine v_ifZ_eq (tgt := 19) X dX10_weightOf_1 (by decide) (fun q => ?_) (fun q => ?_)
  · have hd := Tcnd_f q hd
    refine v_sipush (v := 10000) X dX10_weightOf_19 (by decide) ?_
    refine v_aload_n X dX10_weightOf_22 0 0 rfl rfl ?_
    refine v_iload_n X dX10_weightOf_23 1 1 rfl rfl ?_
    refine v_bipush (v := 6) X dX10_weightOf_24 (by decide) ?_
    refine t_callV X hK hd (ct_X10_of _ am p1 6) (lw_V q1994 q1996 qs59 q120 q1997) ⟨rfl, dn_X10_of⟩ rfl ⟨by decide, by decide⟩ rfl (Nat.le_of_ble_eq_true rfl) dX10_weightOf_26 (fun v2 ms hd => ?_)
    show V K 3 (mkM am hn ms) 29 [(0, .ref am), (1, .int p1), (2, .int (b2i p2))] [.int v2, .int 10000]
    refine v_iadd X dX10_weightOf_29 ?_
    exact v_loc [] rfl (t_at (P := fun (u1 : Int32) m => V K 3 (mkM am hn m) 30 [] [.int u1]) hd KJ)
  · have hd := Tcnd_t q hd
    refine v_bipush (v := 100) X dX10_weightOf_4 (by decide) ?_
    refine v_aload_n X dX10_weightOf_6 0 0 rfl rfl ?_
    refine v_iload_n X dX10_weightOf_7 1 1 rfl rfl ?_
    refine v_bipush (v := 6) X dX10_weightOf_8 (by decide) ?_
    refine t_callV X hK hd (ct_X10_of _ am p1 6) (lw_V q1994 q1996 qs59 q120 q1997) ⟨rfl, dn_X10_of⟩ rfl ⟨by decide, by decide⟩ rfl (Nat.le_of_ble_eq_true rfl) dX10_weightOf_10 (fun v3 ms hd => ?_)
    show V K 3 (mkM am hn ms) 13 [(0, .ref am), (1, .int p1), (2, .int (b2i p2))] [.int v3, .int 100]
    refine v_imul X dX10_weightOf_13 ?_
    refine v_iconst (v := 1) X dX10_weightOf_14 (by decide) ?_
    refine v_iadd X dX10_weightOf_15 ?_
    refine v_goto (tgt := 30) X dX10_weightOf_16 (by decide) ?_
    exact v_loc [] rfl (t_at (P := fun (u1 : Int32) m => V K 3 (mkM am hn m) 30 [] [.int u1]) hd KJ)
def dkwX10_hang_6 : List UInt8 := [132, 4, 1, 167, 255, 176, 177]
abbrev dktX10_hang_6 : List UInt8 := dkwX10_hang_6 ++ []
def dkwX10_hang_5 : List UInt8 := [42, 27, 7, 182, 1, 11, 160, 0, 7, 3, 167, 0, 9, 42, 27, 29, 182, 1, 56, 96, 29, 182, 1, 60]
abbrev dktX10_hang_5 : List UInt8 := dkwX10_hang_5 ++ dktX10_hang_6
def dkwX10_hang_4 : List UInt8 := [182, 1, 53, 154, 0, 6, 167, 0, 42, 42, 180, 0, 54, 27, 21, 4, 79, 42, 27, 4, 96, 28, 21, 4]
abbrev dktX10_hang_4 : List UInt8 := dkwX10_hang_4 ++ dktX10_hang_5
def dkwX10_hang_3 : List UInt8 := [180, 0, 51, 27, 46, 21, 4, 184, 0, 231, 153, 0, 60, 42, 27, 21, 4, 4, 27, 120, 4, 100]
abbrev dktX10_hang_3 : List UInt8 := dkwX10_hang_3 ++ dktX10_hang_4
def dkwX10_hang_2 : List UInt8 := [180, 0, 54, 21, 4, 46, 79, 132, 4, 1, 167, 255, 233, 177, 3, 54, 4, 21, 4, 7, 162, 0, 80, 42]
abbrev dktX10_hang_2 : List UInt8 := dkwX10_hang_2 ++ dktX10_hang_3
def dkwX10_hang_1 : List UInt8 := [160, 0, 38, 42, 28, 181, 1, 50, 3, 54, 4, 21, 4, 27, 162, 0, 23, 42, 180, 0, 57, 21, 4, 42]
abbrev dktX10_hang_1 : List UInt8 := dkwX10_hang_1 ++ dktX10_hang_2
def dkwX10_hang_0 : List UInt8 := [42, 180, 1, 50, 2, 159, 0, 12, 28, 42, 180, 1, 50, 161, 0, 4, 177, 27, 42, 182, 0, 211]
abbrev dktX10_hang_0 : List UInt8 := dkwX10_hang_0 ++ dktX10_hang_1
theorem dksX10_hang_0 : cX10_hang.data.toList.drop 0 = dktX10_hang_0 := by decide +kernel
theorem dksX10_hang_1 : cX10_hang.data.toList.drop 22 = dktX10_hang_1 := dk_seg dksX10_hang_0 22 rfl rfl
theorem dksX10_hang_2 : cX10_hang.data.toList.drop 46 = dktX10_hang_2 := dk_seg dksX10_hang_1 24 rfl rfl
theorem dksX10_hang_3 : cX10_hang.data.toList.drop 70 = dktX10_hang_3 := dk_seg dksX10_hang_2 24 rfl rfl
theorem dksX10_hang_4 : cX10_hang.data.toList.drop 92 = dktX10_hang_4 := dk_seg dksX10_hang_3 22 rfl rfl
theorem dksX10_hang_5 : cX10_hang.data.toList.drop 116 = dktX10_hang_5 := dk_seg dksX10_hang_4 24 rfl rfl
theorem dksX10_hang_6 : cX10_hang.data.toList.drop 140 = dktX10_hang_6 := dk_seg dksX10_hang_5 24 rfl rfl
theorem dX10_hang_0 : decode cX10_hang 0 = .ok (.aload_n 0, 1) := dk_42 (dk_at dksX10_hang_0 0 rfl rfl)
theorem dX10_hang_1 : decode cX10_hang 1 = .ok (.getfield 306, 3) := dk_180 1 50 (dk_at dksX10_hang_0 1 rfl rfl)
theorem dX10_hang_4 : decode cX10_hang 4 = .ok (.iconst (-1), 1) := dk_2 (dk_at dksX10_hang_0 4 rfl rfl)
theorem dX10_hang_5 : decode cX10_hang 5 = .ok (.if_icmp .eq 12, 3) := dk_159 0 12 (dk_at dksX10_hang_0 5 rfl rfl)
theorem dX10_hang_8 : decode cX10_hang 8 = .ok (.iload_n 2, 1) := dk_28 (dk_at dksX10_hang_0 8 rfl rfl)
theorem dX10_hang_9 : decode cX10_hang 9 = .ok (.aload_n 0, 1) := dk_42 (dk_at dksX10_hang_0 9 rfl rfl)
theorem dX10_hang_10 : decode cX10_hang 10 = .ok (.getfield 306, 3) := dk_180 1 50 (dk_at dksX10_hang_0 10 rfl rfl)
theorem dX10_hang_13 : decode cX10_hang 13 = .ok (.if_icmp .lt 4, 3) := dk_161 0 4 (dk_at dksX10_hang_0 13 rfl rfl)
theorem dX10_hang_16 : decode cX10_hang 16 = .ok (.return_, 1) := dk_177 (dk_at dksX10_hang_0 16 rfl rfl)
theorem dX10_hang_17 : decode cX10_hang 17 = .ok (.iload_n 1, 1) := dk_27 (dk_at dksX10_hang_0 17 rfl rfl)
theorem dX10_hang_18 : decode cX10_hang 18 = .ok (.aload_n 0, 1) := dk_42 (dk_at dksX10_hang_0 18 rfl rfl)
theorem dX10_hang_19 : decode cX10_hang 19 = .ok (.invokevirtual 211, 3) := dk_182 0 211 (dk_at dksX10_hang_0 19 rfl rfl)
theorem dX10_hang_22 : decode cX10_hang 22 = .ok (.if_icmp .ne 38, 3) := dk_160 0 38 (dk_at dksX10_hang_1 0 rfl rfl)
theorem dX10_hang_25 : decode cX10_hang 25 = .ok (.aload_n 0, 1) := dk_42 (dk_at dksX10_hang_1 3 rfl rfl)
theorem dX10_hang_26 : decode cX10_hang 26 = .ok (.iload_n 2, 1) := dk_28 (dk_at dksX10_hang_1 4 rfl rfl)
theorem dX10_hang_27 : decode cX10_hang 27 = .ok (.putfield 306, 3) := dk_181 1 50 (dk_at dksX10_hang_1 5 rfl rfl)
theorem dX10_hang_30 : decode cX10_hang 30 = .ok (.iconst 0, 1) := dk_3 (dk_at dksX10_hang_1 8 rfl rfl)
theorem dX10_hang_31 : decode cX10_hang 31 = .ok (.istore 4, 2) := dk_54 4 (dk_at dksX10_hang_1 9 rfl rfl)
theorem dX10_hang_33 : decode cX10_hang 33 = .ok (.iload 4, 2) := dk_21 4 (dk_at dksX10_hang_1 11 rfl rfl)
theorem dX10_hang_35 : decode cX10_hang 35 = .ok (.iload_n 1, 1) := dk_27 (dk_at dksX10_hang_1 13 rfl rfl)
theorem dX10_hang_36 : decode cX10_hang 36 = .ok (.if_icmp .ge 23, 3) := dk_162 0 23 (dk_at dksX10_hang_1 14 rfl rfl)
theorem dX10_hang_39 : decode cX10_hang 39 = .ok (.aload_n 0, 1) := dk_42 (dk_at dksX10_hang_1 17 rfl rfl)
theorem dX10_hang_40 : decode cX10_hang 40 = .ok (.getfield 57, 3) := dk_180 0 57 (dk_at dksX10_hang_1 18 rfl rfl)
theorem dX10_hang_43 : decode cX10_hang 43 = .ok (.iload 4, 2) := dk_21 4 (dk_at dksX10_hang_1 21 rfl rfl)
theorem dX10_hang_45 : decode cX10_hang 45 = .ok (.aload_n 0, 1) := dk_42 (dk_at dksX10_hang_1 23 rfl rfl)
theorem dX10_hang_46 : decode cX10_hang 46 = .ok (.getfield 54, 3) := dk_180 0 54 (dk_at dksX10_hang_2 0 rfl rfl)
theorem dX10_hang_49 : decode cX10_hang 49 = .ok (.iload 4, 2) := dk_21 4 (dk_at dksX10_hang_2 3 rfl rfl)
theorem dX10_hang_51 : decode cX10_hang 51 = .ok (.iaload, 1) := dk_46 (dk_at dksX10_hang_2 5 rfl rfl)
theorem dX10_hang_52 : decode cX10_hang 52 = .ok (.iastore, 1) := dk_79 (dk_at dksX10_hang_2 6 rfl rfl)
theorem dX10_hang_53 : decode cX10_hang 53 = .ok (.iinc 4 1, 3) := dk_132 4 1 (dk_at dksX10_hang_2 7 rfl rfl)
theorem dX10_hang_56 : decode cX10_hang 56 = .ok (.goto (-23), 3) := dk_167 255 233 (dk_at dksX10_hang_2 10 rfl rfl)
theorem dX10_hang_59 : decode cX10_hang 59 = .ok (.return_, 1) := dk_177 (dk_at dksX10_hang_2 13 rfl rfl)
theorem dX10_hang_60 : decode cX10_hang 60 = .ok (.iconst 0, 1) := dk_3 (dk_at dksX10_hang_2 14 rfl rfl)
theorem dX10_hang_61 : decode cX10_hang 61 = .ok (.istore 4, 2) := dk_54 4 (dk_at dksX10_hang_2 15 rfl rfl)
theorem dX10_hang_63 : decode cX10_hang 63 = .ok (.iload 4, 2) := dk_21 4 (dk_at dksX10_hang_2 17 rfl rfl)
theorem dX10_hang_65 : decode cX10_hang 65 = .ok (.iconst 4, 1) := dk_7 (dk_at dksX10_hang_2 19 rfl rfl)
theorem dX10_hang_66 : decode cX10_hang 66 = .ok (.if_icmp .ge 80, 3) := dk_162 0 80 (dk_at dksX10_hang_2 20 rfl rfl)
theorem dX10_hang_69 : decode cX10_hang 69 = .ok (.aload_n 0, 1) := dk_42 (dk_at dksX10_hang_2 23 rfl rfl)
theorem dX10_hang_70 : decode cX10_hang 70 = .ok (.getfield 51, 3) := dk_180 0 51 (dk_at dksX10_hang_3 0 rfl rfl)
theorem dX10_hang_73 : decode cX10_hang 73 = .ok (.iload_n 1, 1) := dk_27 (dk_at dksX10_hang_3 3 rfl rfl)
theorem dX10_hang_74 : decode cX10_hang 74 = .ok (.iaload, 1) := dk_46 (dk_at dksX10_hang_3 4 rfl rfl)
theorem dX10_hang_75 : decode cX10_hang 75 = .ok (.iload 4, 2) := dk_21 4 (dk_at dksX10_hang_3 5 rfl rfl)
theorem dX10_hang_77 : decode cX10_hang 77 = .ok (.invokestatic 231, 3) := dk_184 0 231 (dk_at dksX10_hang_3 7 rfl rfl)
theorem dX10_hang_80 : decode cX10_hang 80 = .ok (.ifCond .eq 60, 3) := dk_153 0 60 (dk_at dksX10_hang_3 10 rfl rfl)
theorem dX10_hang_83 : decode cX10_hang 83 = .ok (.aload_n 0, 1) := dk_42 (dk_at dksX10_hang_3 13 rfl rfl)
theorem dX10_hang_84 : decode cX10_hang 84 = .ok (.iload_n 1, 1) := dk_27 (dk_at dksX10_hang_3 14 rfl rfl)
theorem dX10_hang_85 : decode cX10_hang 85 = .ok (.iload 4, 2) := dk_21 4 (dk_at dksX10_hang_3 15 rfl rfl)
theorem dX10_hang_87 : decode cX10_hang 87 = .ok (.iconst 1, 1) := dk_4 (dk_at dksX10_hang_3 17 rfl rfl)
theorem dX10_hang_88 : decode cX10_hang 88 = .ok (.iload_n 1, 1) := dk_27 (dk_at dksX10_hang_3 18 rfl rfl)
theorem dX10_hang_89 : decode cX10_hang 89 = .ok (.ishl, 1) := dk_120 (dk_at dksX10_hang_3 19 rfl rfl)
theorem dX10_hang_90 : decode cX10_hang 90 = .ok (.iconst 1, 1) := dk_4 (dk_at dksX10_hang_3 20 rfl rfl)
theorem dX10_hang_91 : decode cX10_hang 91 = .ok (.isub, 1) := dk_100 (dk_at dksX10_hang_3 21 rfl rfl)
theorem dX10_hang_92 : decode cX10_hang 92 = .ok (.invokevirtual 309, 3) := dk_182 1 53 (dk_at dksX10_hang_4 0 rfl rfl)
theorem dX10_hang_95 : decode cX10_hang 95 = .ok (.ifCond .ne 6, 3) := dk_154 0 6 (dk_at dksX10_hang_4 3 rfl rfl)
theorem dX10_hang_98 : decode cX10_hang 98 = .ok (.goto 42, 3) := dk_167 0 42 (dk_at dksX10_hang_4 6 rfl rfl)
theorem dX10_hang_101 : decode cX10_hang 101 = .ok (.aload_n 0, 1) := dk_42 (dk_at dksX10_hang_4 9 rfl rfl)
theorem dX10_hang_102 : decode cX10_hang 102 = .ok (.getfield 54, 3) := dk_180 0 54 (dk_at dksX10_hang_4 10 rfl rfl)
theorem dX10_hang_105 : decode cX10_hang 105 = .ok (.iload_n 1, 1) := dk_27 (dk_at dksX10_hang_4 13 rfl rfl)
theorem dX10_hang_106 : decode cX10_hang 106 = .ok (.iload 4, 2) := dk_21 4 (dk_at dksX10_hang_4 14 rfl rfl)
theorem dX10_hang_108 : decode cX10_hang 108 = .ok (.iastore, 1) := dk_79 (dk_at dksX10_hang_4 16 rfl rfl)
theorem dX10_hang_109 : decode cX10_hang 109 = .ok (.aload_n 0, 1) := dk_42 (dk_at dksX10_hang_4 17 rfl rfl)
theorem dX10_hang_110 : decode cX10_hang 110 = .ok (.iload_n 1, 1) := dk_27 (dk_at dksX10_hang_4 18 rfl rfl)
theorem dX10_hang_111 : decode cX10_hang 111 = .ok (.iconst 1, 1) := dk_4 (dk_at dksX10_hang_4 19 rfl rfl)
theorem dX10_hang_112 : decode cX10_hang 112 = .ok (.iadd, 1) := dk_96 (dk_at dksX10_hang_4 20 rfl rfl)
theorem dX10_hang_113 : decode cX10_hang 113 = .ok (.iload_n 2, 1) := dk_28 (dk_at dksX10_hang_4 21 rfl rfl)
theorem dX10_hang_114 : decode cX10_hang 114 = .ok (.iload 4, 2) := dk_21 4 (dk_at dksX10_hang_4 22 rfl rfl)
theorem dX10_hang_116 : decode cX10_hang 116 = .ok (.aload_n 0, 1) := dk_42 (dk_at dksX10_hang_5 0 rfl rfl)
theorem dX10_hang_117 : decode cX10_hang 117 = .ok (.iload_n 1, 1) := dk_27 (dk_at dksX10_hang_5 1 rfl rfl)
theorem dX10_hang_118 : decode cX10_hang 118 = .ok (.iconst 4, 1) := dk_7 (dk_at dksX10_hang_5 2 rfl rfl)
theorem dX10_hang_119 : decode cX10_hang 119 = .ok (.invokevirtual 267, 3) := dk_182 1 11 (dk_at dksX10_hang_5 3 rfl rfl)
theorem dX10_hang_122 : decode cX10_hang 122 = .ok (.if_icmp .ne 7, 3) := dk_160 0 7 (dk_at dksX10_hang_5 6 rfl rfl)
theorem dX10_hang_125 : decode cX10_hang 125 = .ok (.iconst 0, 1) := dk_3 (dk_at dksX10_hang_5 9 rfl rfl)
theorem dX10_hang_126 : decode cX10_hang 126 = .ok (.goto 9, 3) := dk_167 0 9 (dk_at dksX10_hang_5 10 rfl rfl)
theorem dX10_hang_129 : decode cX10_hang 129 = .ok (.aload_n 0, 1) := dk_42 (dk_at dksX10_hang_5 13 rfl rfl)
theorem dX10_hang_130 : decode cX10_hang 130 = .ok (.iload_n 1, 1) := dk_27 (dk_at dksX10_hang_5 14 rfl rfl)
theorem dX10_hang_131 : decode cX10_hang 131 = .ok (.iload_n 3, 1) := dk_29 (dk_at dksX10_hang_5 15 rfl rfl)
theorem dX10_hang_132 : decode cX10_hang 132 = .ok (.invokevirtual 312, 3) := dk_182 1 56 (dk_at dksX10_hang_5 16 rfl rfl)
theorem dX10_hang_135 : decode cX10_hang 135 = .ok (.iadd, 1) := dk_96 (dk_at dksX10_hang_5 19 rfl rfl)
theorem dX10_hang_136 : decode cX10_hang 136 = .ok (.iload_n 3, 1) := dk_29 (dk_at dksX10_hang_5 20 rfl rfl)
theorem dX10_hang_137 : decode cX10_hang 137 = .ok (.invokevirtual 316, 3) := dk_182 1 60 (dk_at dksX10_hang_5 21 rfl rfl)
theorem dX10_hang_140 : decode cX10_hang 140 = .ok (.iinc 4 1, 3) := dk_132 4 1 (dk_at dksX10_hang_6 0 rfl rfl)
theorem dX10_hang_143 : decode cX10_hang 143 = .ok (.goto (-80), 3) := dk_167 255 176 (dk_at dksX10_hang_6 3 rfl rfl)
theorem dX10_hang_146 : decode cX10_hang 146 = .ok (.return_, 1) := dk_177 (dk_at dksX10_hang_6 6 rfl rfl)
theorem fl_X10_306 : gFl "BitingDoorsModel" 306 [8] 32 := by
  intro args s hts hN ci hc
  simp only [List.mem_cons, List.not_mem_nil, or_false] at hc
  subst hc
  exact ⟨RX10, TX10, 64, "BitingDoorsModel", gCl_X10, in_X10, by decide, Or.inl (hts _ q1682), fun _ h => h⟩
theorem fl_X10_51 : gFl "BitingDoorsModel" 51 [8] 29 := by
  intro args s hts hN ci hc
  simp only [List.mem_cons, List.not_mem_nil, or_false] at hc
  subst hc
  exact ⟨RX10, TX10, 64, "BitingDoorsModel", gCl_X10, in_X10, by decide, Or.inl (hts _ q1679), fun _ h => h⟩
theorem fl_X10_57 : gFl "BitingDoorsModel" 57 [8] 31 := by
  intro args s hts hN ci hc
  simp only [List.mem_cons, List.not_mem_nil, or_false] at hc
  subst hc
  exact ⟨RX10, TX10, 64, "BitingDoorsModel", gCl_X10, in_X10, by decide, Or.inl (hts _ q1681), fun _ h => h⟩
theorem fp_X10_306 {nm : String} : gFp "BitingDoorsModel" nm 306 [8] 32 .int := by
  intro args s hts hN ci hc
  simp only [List.mem_cons, List.not_mem_nil, or_false] at hc
  subst hc
  exact ⟨RX10, TX10, 64, "BitingDoorsModel", gCl_X10, in_X10, by decide, Or.inl ⟨rfl, Or.inl (hts _ q1682)⟩, fun _ h => h, rfl, fun D tys hK => gap_X10 hts hK⟩
theorem dn_X10_hang : yX10_hang.cls ≠ "java/lang/invoke/MethodHandle" ∧ yX10_hang.cls ≠ "java/lang/invoke/VarHandle" ∧ (parseMethodDescriptor yX10_hang.desc).map (fun d => d.parameters.length) = some 3 := by decide +kernel
noncomputable def B_X10_hang (Rc : Int32 → Int32 → Bool → TM Unit) (p1 : Int32) (p2 : Int32) (p3 : Bool) : TM Unit := TM.bind (tI 32) (fun v1 => if v1 = (-1) then TM.bind (M_X10_doors) (fun v2 => if p1 = v2 then TM.bind (sI 32 p2) (fun _ => TM.bind (TM.loop (S := Int32) (E := Unit) (fun s16 => if p1 ≤ s16 then TM.pure (Sum.inr ()) else TM.bind (tA 30 10 s16) (fun v20 => TM.bind (sA 31 10 s16 v20) (fun _ => TM.lv (s16 + 1) (fun v21 => TM.pure (Sum.inl v21))))) 0) (fun e19 => TM.pure ())) else TM.bind (TM.loop (S := Int32) (E := Unit) (fun s3 => if 4 ≤ s3 then TM.pure (Sum.inr ()) else TM.bind (tA 29 10 p1) (fun v7 => TM.bind (M_X10_has v7 s3) (fun v8 => TM.bind ((cond v8 (TM.bind (M_X10_mayHang p1 s3 ((1 <<< (p1 &&& 31)) - 1)) (fun v11 => cond v11 (TM.bind (sA 30 10 p1 s3) (fun _ => TM.bind (M_X10_of p1 4) (fun v12 => TM.bind ((if s3 = v12 then TM.pure 0 else TM.bind (M_X10_weightOf p1 p3) (fun v15 => TM.pure v15) : TM (Int32))) (fun u13 => TM.bind (Rc (p1 + 1) (p2 + u13) p3) (fun v14 => TM.pure ()))))) (TM.pure ()))) (TM.pure ()) : TM (Unit))) (fun u9 => TM.lv (s3 + 1) (fun v10 => TM.pure (Sum.inl v10)))))) 0) (fun e6 => TM.pure ())) else TM.bind (tI 32) (fun v22 => if p2 < v22 then TM.bind (M_X10_doors) (fun v23 => if p1 = v23 then TM.bind (sI 32 p2) (fun _ => TM.bind (TM.loop (S := Int32) (E := Unit) (fun s37 => if p1 ≤ s37 then TM.pure (Sum.inr ()) else TM.bind (tA 30 10 s37) (fun v41 => TM.bind (sA 31 10 s37 v41) (fun _ => TM.lv (s37 + 1) (fun v42 => TM.pure (Sum.inl v42))))) 0) (fun e40 => TM.pure ())) else TM.bind (TM.loop (S := Int32) (E := Unit) (fun s24 => if 4 ≤ s24 then TM.pure (Sum.inr ()) else TM.bind (tA 29 10 p1) (fun v28 => TM.bind (M_X10_has v28 s24) (fun v29 => TM.bind ((cond v29 (TM.bind (M_X10_mayHang p1 s24 ((1 <<< (p1 &&& 31)) - 1)) (fun v32 => cond v32 (TM.bind (sA 30 10 p1 s24) (fun _ => TM.bind (M_X10_of p1 4) (fun v33 => TM.bind ((if s24 = v33 then TM.pure 0 else TM.bind (M_X10_weightOf p1 p3) (fun v36 => TM.pure v36) : TM (Int32))) (fun u34 => TM.bind (Rc (p1 + 1) (p2 + u34) p3) (fun v35 => TM.pure ()))))) (TM.pure ()))) (TM.pure ()) : TM (Unit))) (fun u30 => TM.lv (s24 + 1) (fun v31 => TM.pure (Sum.inl v31)))))) 0) (fun e27 => TM.pure ())) else TM.pure ()))
noncomputable def M_X10_hang : Nat → Int32 → Int32 → Bool → TM Unit
  | 0 => fun _ _ _ => TM.fail
  | n + 1 => B_X10_hang (M_X10_hang n)
set_option maxHeartbeats 4000000 in
theorem ct_X10_hang (G : gG) (am n : Nat) : ∀ (p1 : Int32) (p2 : Int32) (p3 : Bool), gCtM G am yX10_hang cX10_hang 5 none (2 + n) (48 + n * 24) [.ref am, .int p1, .int p2, .int (b2i p3)] (M_X10_hang n p1 p2 p3) (fun _ : Unit => none) := by
  induction n with
  | zero =>
    intro p1 p2 p3 hn ms r m2 hf
    cases hf
  | succ n ih =>
    intro p1 p2 p3
    refine gCtM.of (by decide) (Nat.le_of_ble_eq_true rfl) (fun K hn ms ms' r hG X hK hd ho => ?_)
    subst hG
    have X : gX K cX10_hang 5 "BitingDoorsModel" "hang" none (2 + (n + 1)) (48 + (n + 1) * 24) := X
    show V K 5 (mkM am hn ms) 0 [(0, .ref am), (1, .int p1), (2, .int p2), (3, .int (b2i p3))] []
    have hd : B_X10_hang (M_X10_hang n) p1 p2 p3 ms = some (r, ms') := hd
    unfold B_X10_hang at hd
    refine v_aload_n X dX10_hang_0 0 0 rfl rfl ?_
    refine t_getI X hd rfl fl_X10_306 dX10_hang_1 (fun v1 hd => ?_)
    refine v_iconst (v := (-1)) X dX10_hang_4 (by decide) ?_
    refine v_icmp_eq (tgt := 17) X dX10_hang_5 (by decide) (fun q => ?_) (fun q => ?_)
    · have hd := Tite_t q hd
      refine v_iload_n X dX10_hang_17 1 1 rfl rfl ?_
      refine v_aload_n X dX10_hang_18 0 0 rfl rfl ?_
      refine t_callV X hK hd (ct_X10_doors _ am) (lw_V q1986 q1988 qs57 q120 q1989) ⟨rfl, dn_X10_doors⟩ rfl ⟨by omega, by omega⟩ rfl (Nat.le_of_ble_eq_true rfl) dX10_hang_19 (fun v2 ms hd => ?_)
      show V K 5 (mkM am hn ms) 22 [(0, .ref am), (1, .int p1), (2, .int p2), (3, .int (b2i p3))] [.int v2, .int p1]
      refine v_icmp_ne (tgt := 60) X dX10_hang_22 (by decide) (fun q => ?_) (fun q => ?_)
      · have hd := Tite_f q hd
        refine v_iconst (v := 0) X dX10_hang_60 (by decide) ?_
        refine v_istore (lv2 := [(4, .int 0), (0, .ref am), (1, .int p1), (2, .int p2), (3, .int (b2i p3))]) X dX10_hang_61 (by decide) rfl ?_
        obtain ⟨e6, m1, hd, hd2⟩ := TM.bind_some hd
        have KX : V K 5 (mkM am hn m1) 146 [] [] := by
          clear hd
          have hd := hd2
          exact t_vret X hK hd ho dX10_hang_146
        clear hd2
        refine v_loc [1, 2, 3, 4, 0] rfl ?_
        refine Tloop_ind hd (fun (s3 : Int32) m => V K 5 (mkM am hn m) 63 [(0, .ref am), (1, .int p1), (2, .int p2), (3, .int (b2i p3)), (4, .int s3)] []) (fun s3 ms x m2 hd ih4 ho5 => ?_)
        refine v_iload X dX10_hang_63 4 rfl ?_
        refine v_iconst (v := 4) X dX10_hang_65 (by decide) ?_
        refine v_icmp_ge (tgt := 146) X dX10_hang_66 (by decide) (fun q => ?_) (fun q => ?_)
        · have hd := Tite_t q hd
          exact v_loc [] rfl (t_at (P := fun (e6 : Unit) m => V K 5 (mkM am hn m) 146 [] []) (Tlp_out hd ho5) KX)
        · have hd := Tite_f q hd
          refine v_aload_n X dX10_hang_69 0 0 rfl rfl ?_
          refine t_getA (j := 13) X rfl fl_X10_51 dX10_hang_70 ?_
          refine v_iload_n X dX10_hang_73 1 1 rfl rfl ?_
          refine t_iald (j := 13) X hd rfl dX10_hang_74 (fun v7 hd => ?_)
          refine v_iload X dX10_hang_75 4 rfl ?_
          refine t_callS X hK hd (ct_X10_has _ am v7 s3) (lw_S q1947 q1948 q120 q1949) dn_X10_has rfl ⟨by omega, by omega⟩ rfl (Nat.le_of_ble_eq_true rfl) dX10_hang_77 (fun v8 ms hd => ?_)
          show V K 5 (mkM am hn ms) 80 [(0, .ref am), (1, .int p1), (2, .int p2), (3, .int (b2i p3)), (4, .int s3)] [.int (b2i v8)]
          obtain ⟨u9, m1, hd, hd2⟩ := TM.bind_some hd
          have KJ : V K 5 (mkM am hn m1) 140 [(0, .ref am), (1, .int p1), (2, .int p2), (3, .int (b2i p3)), (4, .int s3)] [] := by
            clear hd
            have hd := hd2
            refine t_iincL (lv2 := fun v10 => [(4, .int v10), (0, .ref am), (1, .int p1), (2, .int p2), (3, .int (b2i p3))]) X hd dX10_hang_140 4 rfl (by decide : Int32.ofInt 1 = 1) (by decide) (fun v10 => rfl) (fun v10 hd => ?_)
            refine v_goto (tgt := 63) X dX10_hang_143 (by decide) ?_
            exact v_loc [1, 2, 3, 4, 0] rfl (Tlp_in (P := fun (s3 : Int32) m => V K 5 (mkM am hn m) 63 [(0, .ref am), (1, .int p1), (2, .int p2), (3, .int (b2i p3)), (4, .int s3)] []) hd ih4)
          clear hd2
          refine v_ifZ_eq (tgt := 140) X dX10_hang_80 (by decide) (fun q => ?_) (fun q => ?_)
          · have hd := Tcnd_f q hd
            exact v_loc [0, 1, 2, 3, 4] rfl (t_at (P := fun (u9 : Unit) m => V K 5 (mkM am hn m) 140 [(0, .ref am), (1, .int p1), (2, .int p2), (3, .int (b2i p3)), (4, .int s3)] []) hd KJ)
          · have hd := Tcnd_t q hd
            refine v_aload_n X dX10_hang_83 0 0 rfl rfl ?_
            refine v_iload_n X dX10_hang_84 1 1 rfl rfl ?_
            refine v_iload X dX10_hang_85 4 rfl ?_
            refine v_iconst (v := 1) X dX10_hang_87 (by decide) ?_
            refine v_iload_n X dX10_hang_88 1 1 rfl rfl ?_
            refine v_ishl X dX10_hang_89 ?_
            refine v_iconst (v := 1) X dX10_hang_90 (by decide) ?_
            refine v_isub X dX10_hang_91 ?_
            refine t_callV X hK hd (ct_X10_mayHang _ am p1 s3 ((1 <<< (p1 &&& 31)) - 1)) (lw_V q2065 q2067 qs70 q120 q2068) ⟨rfl, dn_X10_mayHang⟩ rfl ⟨by omega, by omega⟩ rfl (Nat.le_of_ble_eq_true rfl) dX10_hang_92 (fun v11 ms hd => ?_)
            show V K 5 (mkM am hn ms) 95 [(0, .ref am), (1, .int p1), (2, .int p2), (3, .int (b2i p3)), (4, .int s3)] [.int (b2i v11)]
            refine v_ifZ_ne (tgt := 101) X dX10_hang_95 (by decide) (fun q => ?_) (fun q => ?_)
            · have hd := Tcnd_t q hd
              refine v_aload_n X dX10_hang_101 0 0 rfl rfl ?_
              refine t_getA (j := 14) X rfl fl_X10_54 dX10_hang_102 ?_
              refine v_iload_n X dX10_hang_105 1 1 rfl rfl ?_
              refine v_iload X dX10_hang_106 4 rfl ?_
              refine t_iast (j := 14) X hd rfl dX10_hang_108 (fun ms hd => ?_)
              refine v_aload_n X dX10_hang_109 0 0 rfl rfl ?_
              refine v_iload_n X dX10_hang_110 1 1 rfl rfl ?_
              refine v_iconst (v := 1) X dX10_hang_111 (by decide) ?_
              refine v_iadd X dX10_hang_112 ?_
              refine v_iload_n X dX10_hang_113 2 2 rfl rfl ?_
              refine v_iload X dX10_hang_114 4 rfl ?_
              refine v_aload_n X dX10_hang_116 0 0 rfl rfl ?_
              refine v_iload_n X dX10_hang_117 1 1 rfl rfl ?_
              refine v_iconst (v := 4) X dX10_hang_118 (by decide) ?_
              refine t_callV X hK hd (ct_X10_of _ am p1 4) (lw_V q1994 q1996 qs59 q120 q1997) ⟨rfl, dn_X10_of⟩ rfl ⟨by omega, by omega⟩ rfl (Nat.le_of_ble_eq_true rfl) dX10_hang_119 (fun v12 ms hd => ?_)
              show V K 5 (mkM am hn ms) 122 [(0, .ref am), (1, .int p1), (2, .int p2), (3, .int (b2i p3)), (4, .int s3)] [.int v12, .int s3, .int p2, .int (p1 + 1), .ref am]
              obtain ⟨u13, m1, hd, hd2⟩ := TM.bind_some hd
              have KJ : V K 5 (mkM am hn m1) 135 [(0, .ref am), (1, .int p1), (2, .int p2), (3, .int (b2i p3)), (4, .int s3)] [.int u13, .int p2, .int (p1 + 1), .ref am] := by
                clear hd
                have hd := hd2
                refine v_iadd X dX10_hang_135 ?_
                refine v_iload_n X dX10_hang_136 3 3 rfl rfl ?_
                refine t_callV X hK hd (ih (p1 + 1) (p2 + u13) p3) (lw_V q2061 q2063 qs69 q120 q2064) ⟨rfl, dn_X10_hang⟩ rfl ⟨by omega, by omega⟩ rfl (Nat.le_of_ble_eq_true rfl) dX10_hang_137 (fun v14 ms hd => ?_)
                show V K 5 (mkM am hn ms) 140 [(0, .ref am), (1, .int p1), (2, .int p2), (3, .int (b2i p3)), (4, .int s3)] []
                exact v_loc [0, 1, 2, 3, 4] rfl (t_at (P := fun (u9 : Unit) m => V K 5 (mkM am hn m) 140 [(0, .ref am), (1, .int p1), (2, .int p2), (3, .int (b2i p3)), (4, .int s3)] []) hd KJ)
              clear hd2
              refine v_icmp_ne (tgt := 129) X dX10_hang_122 (by decide) (fun q => ?_) (fun q => ?_)
              · have hd := Tite_f q hd
                refine v_aload_n X dX10_hang_129 0 0 rfl rfl ?_
                refine v_iload_n X dX10_hang_130 1 1 rfl rfl ?_
                refine v_iload_n X dX10_hang_131 3 3 rfl rfl ?_
                refine t_callV X hK hd (ct_X10_weightOf _ am p1 p3) (lw_V q2069 q2071 qs71 q120 q2072) ⟨rfl, dn_X10_weightOf⟩ rfl ⟨by omega, by omega⟩ rfl (Nat.le_of_ble_eq_true rfl) dX10_hang_132 (fun v15 ms hd => ?_)
                show V K 5 (mkM am hn ms) 135 [(0, .ref am), (1, .int p1), (2, .int p2), (3, .int (b2i p3)), (4, .int s3)] [.int v15, .int p2, .int (p1 + 1), .ref am]
                exact v_loc [0, 1, 2, 3, 4] rfl (t_at (P := fun (u13 : Int32) m => V K 5 (mkM am hn m) 135 [(0, .ref am), (1, .int p1), (2, .int p2), (3, .int (b2i p3)), (4, .int s3)] [.int u13, .int p2, .int (p1 + 1), .ref am]) hd KJ)
              · have hd := Tite_t q hd
                refine v_iconst (v := 0) X dX10_hang_125 (by decide) ?_
                refine v_goto (tgt := 135) X dX10_hang_126 (by decide) ?_
                exact v_loc [0, 1, 2, 3, 4] rfl (t_at (P := fun (u13 : Int32) m => V K 5 (mkM am hn m) 135 [(0, .ref am), (1, .int p1), (2, .int p2), (3, .int (b2i p3)), (4, .int s3)] [.int u13, .int p2, .int (p1 + 1), .ref am]) hd KJ)
            · have hd := Tcnd_f q hd
              refine v_goto (tgt := 140) X dX10_hang_98 (by decide) ?_
              exact v_loc [0, 1, 2, 3, 4] rfl (t_at (P := fun (u9 : Unit) m => V K 5 (mkM am hn m) 140 [(0, .ref am), (1, .int p1), (2, .int p2), (3, .int (b2i p3)), (4, .int s3)] []) hd KJ)
      · have hd := Tite_t q hd
        refine v_aload_n X dX10_hang_25 0 0 rfl rfl ?_
        refine v_iload_n X dX10_hang_26 2 2 rfl rfl ?_
        refine t_putI X hd rfl fp_X10_306 dX10_hang_27 (fun ms hd => ?_)
        refine v_iconst (v := 0) X dX10_hang_30 (by decide) ?_
        refine v_istore (lv2 := [(4, .int 0), (0, .ref am), (1, .int p1), (2, .int p2), (3, .int (b2i p3))]) X dX10_hang_31 (by decide) rfl ?_
        obtain ⟨e19, m1, hd, hd2⟩ := TM.bind_some hd
        have KX : V K 5 (mkM am hn m1) 59 [] [] := by
          clear hd
          have hd := hd2
          exact t_vret X hK hd ho dX10_hang_59
        clear hd2
        refine v_loc [1, 2, 0] rfl ?_
        refine Tloop_ind hd (fun (s16 : Int32) m => V K 5 (mkM am hn m) 33 [(0, .ref am), (1, .int p1), (4, .int s16)] []) (fun s16 ms x m2 hd ih17 ho18 => ?_)
        refine v_iload X dX10_hang_33 2 rfl ?_
        refine v_iload_n X dX10_hang_35 1 1 rfl rfl ?_
        refine v_icmp_ge (tgt := 59) X dX10_hang_36 (by decide) (fun q => ?_) (fun q => ?_)
        · have hd := Tite_t q hd
          exact v_loc [] rfl (t_at (P := fun (e19 : Unit) m => V K 5 (mkM am hn m) 59 [] []) (Tlp_out hd ho18) KX)
        · have hd := Tite_f q hd
          refine v_aload_n X dX10_hang_39 0 0 rfl rfl ?_
          refine t_getA (j := 15) X rfl fl_X10_57 dX10_hang_40 ?_
          refine v_iload X dX10_hang_43 2 rfl ?_
          refine v_aload_n X dX10_hang_45 0 0 rfl rfl ?_
          refine t_getA (j := 14) X rfl fl_X10_54 dX10_hang_46 ?_
          refine v_iload X dX10_hang_49 2 rfl ?_
          refine t_iald (j := 14) X hd rfl dX10_hang_51 (fun v20 hd => ?_)
          refine t_iast (j := 15) X hd rfl dX10_hang_52 (fun ms hd => ?_)
          refine t_iincL (lv2 := fun v21 => [(4, .int v21), (0, .ref am), (1, .int p1)]) X hd dX10_hang_53 2 rfl (by decide : Int32.ofInt 1 = 1) (by decide) (fun v21 => rfl) (fun v21 hd => ?_)
          refine v_goto (tgt := 33) X dX10_hang_56 (by decide) ?_
          exact v_loc [1, 2, 0] rfl (Tlp_in (P := fun (s16 : Int32) m => V K 5 (mkM am hn m) 33 [(0, .ref am), (1, .int p1), (4, .int s16)] []) hd ih17)
    · have hd := Tite_f q hd
      refine v_iload_n X dX10_hang_8 2 2 rfl rfl ?_
      refine v_aload_n X dX10_hang_9 0 0 rfl rfl ?_
      refine t_getI X hd rfl fl_X10_306 dX10_hang_10 (fun v22 hd => ?_)
      refine v_icmp_lt (tgt := 17) X dX10_hang_13 (by decide) (fun q => ?_) (fun q => ?_)
      · have hd := Tite_t q hd
        refine v_iload_n X dX10_hang_17 1 1 rfl rfl ?_
        refine v_aload_n X dX10_hang_18 0 0 rfl rfl ?_
        refine t_callV X hK hd (ct_X10_doors _ am) (lw_V q1986 q1988 qs57 q120 q1989) ⟨rfl, dn_X10_doors⟩ rfl ⟨by omega, by omega⟩ rfl (Nat.le_of_ble_eq_true rfl) dX10_hang_19 (fun v23 ms hd => ?_)
        show V K 5 (mkM am hn ms) 22 [(0, .ref am), (1, .int p1), (2, .int p2), (3, .int (b2i p3))] [.int v23, .int p1]
        refine v_icmp_ne (tgt := 60) X dX10_hang_22 (by decide) (fun q => ?_) (fun q => ?_)
        · have hd := Tite_f q hd
          refine v_iconst (v := 0) X dX10_hang_60 (by decide) ?_
          refine v_istore (lv2 := [(4, .int 0), (0, .ref am), (1, .int p1), (2, .int p2), (3, .int (b2i p3))]) X dX10_hang_61 (by decide) rfl ?_
          obtain ⟨e27, m1, hd, hd2⟩ := TM.bind_some hd
          have KX : V K 5 (mkM am hn m1) 146 [] [] := by
            clear hd
            have hd := hd2
            exact t_vret X hK hd ho dX10_hang_146
          clear hd2
          refine v_loc [1, 2, 3, 4, 0] rfl ?_
          refine Tloop_ind hd (fun (s24 : Int32) m => V K 5 (mkM am hn m) 63 [(0, .ref am), (1, .int p1), (2, .int p2), (3, .int (b2i p3)), (4, .int s24)] []) (fun s24 ms x m2 hd ih25 ho26 => ?_)
          refine v_iload X dX10_hang_63 4 rfl ?_
          refine v_iconst (v := 4) X dX10_hang_65 (by decide) ?_
          refine v_icmp_ge (tgt := 146) X dX10_hang_66 (by decide) (fun q => ?_) (fun q => ?_)
          · have hd := Tite_t q hd
            exact v_loc [] rfl (t_at (P := fun (e27 : Unit) m => V K 5 (mkM am hn m) 146 [] []) (Tlp_out hd ho26) KX)
          · have hd := Tite_f q hd
            refine v_aload_n X dX10_hang_69 0 0 rfl rfl ?_
            refine t_getA (j := 13) X rfl fl_X10_51 dX10_hang_70 ?_
            refine v_iload_n X dX10_hang_73 1 1 rfl rfl ?_
            refine t_iald (j := 13) X hd rfl dX10_hang_74 (fun v28 hd => ?_)
            refine v_iload X dX10_hang_75 4 rfl ?_
            refine t_callS X hK hd (ct_X10_has _ am v28 s24) (lw_S q1947 q1948 q120 q1949) dn_X10_has rfl ⟨by omega, by omega⟩ rfl (Nat.le_of_ble_eq_true rfl) dX10_hang_77 (fun v29 ms hd => ?_)
            show V K 5 (mkM am hn ms) 80 [(0, .ref am), (1, .int p1), (2, .int p2), (3, .int (b2i p3)), (4, .int s24)] [.int (b2i v29)]
            obtain ⟨u30, m1, hd, hd2⟩ := TM.bind_some hd
            have KJ : V K 5 (mkM am hn m1) 140 [(0, .ref am), (1, .int p1), (2, .int p2), (3, .int (b2i p3)), (4, .int s24)] [] := by
              clear hd
              have hd := hd2
              refine t_iincL (lv2 := fun v31 => [(4, .int v31), (0, .ref am), (1, .int p1), (2, .int p2), (3, .int (b2i p3))]) X hd dX10_hang_140 4 rfl (by decide : Int32.ofInt 1 = 1) (by decide) (fun v31 => rfl) (fun v31 hd => ?_)
              refine v_goto (tgt := 63) X dX10_hang_143 (by decide) ?_
              exact v_loc [1, 2, 3, 4, 0] rfl (Tlp_in (P := fun (s24 : Int32) m => V K 5 (mkM am hn m) 63 [(0, .ref am), (1, .int p1), (2, .int p2), (3, .int (b2i p3)), (4, .int s24)] []) hd ih25)
            clear hd2
            refine v_ifZ_eq (tgt := 140) X dX10_hang_80 (by decide) (fun q => ?_) (fun q => ?_)
            · have hd := Tcnd_f q hd
              exact v_loc [0, 1, 2, 3, 4] rfl (t_at (P := fun (u30 : Unit) m => V K 5 (mkM am hn m) 140 [(0, .ref am), (1, .int p1), (2, .int p2), (3, .int (b2i p3)), (4, .int s24)] []) hd KJ)
            · have hd := Tcnd_t q hd
              refine v_aload_n X dX10_hang_83 0 0 rfl rfl ?_
              refine v_iload_n X dX10_hang_84 1 1 rfl rfl ?_
              refine v_iload X dX10_hang_85 4 rfl ?_
              refine v_iconst (v := 1) X dX10_hang_87 (by decide) ?_
              refine v_iload_n X dX10_hang_88 1 1 rfl rfl ?_
              refine v_ishl X dX10_hang_89 ?_
              refine v_iconst (v := 1) X dX10_hang_90 (by decide) ?_
              refine v_isub X dX10_hang_91 ?_
              refine t_callV X hK hd (ct_X10_mayHang _ am p1 s24 ((1 <<< (p1 &&& 31)) - 1)) (lw_V q2065 q2067 qs70 q120 q2068) ⟨rfl, dn_X10_mayHang⟩ rfl ⟨by omega, by omega⟩ rfl (Nat.le_of_ble_eq_true rfl) dX10_hang_92 (fun v32 ms hd => ?_)
              show V K 5 (mkM am hn ms) 95 [(0, .ref am), (1, .int p1), (2, .int p2), (3, .int (b2i p3)), (4, .int s24)] [.int (b2i v32)]
              refine v_ifZ_ne (tgt := 101) X dX10_hang_95 (by decide) (fun q => ?_) (fun q => ?_)
              · have hd := Tcnd_t q hd
                refine v_aload_n X dX10_hang_101 0 0 rfl rfl ?_
                refine t_getA (j := 14) X rfl fl_X10_54 dX10_hang_102 ?_
                refine v_iload_n X dX10_hang_105 1 1 rfl rfl ?_
                refine v_iload X dX10_hang_106 4 rfl ?_
                refine t_iast (j := 14) X hd rfl dX10_hang_108 (fun ms hd => ?_)
                refine v_aload_n X dX10_hang_109 0 0 rfl rfl ?_
                refine v_iload_n X dX10_hang_110 1 1 rfl rfl ?_
                refine v_iconst (v := 1) X dX10_hang_111 (by decide) ?_
                refine v_iadd X dX10_hang_112 ?_
                refine v_iload_n X dX10_hang_113 2 2 rfl rfl ?_
                refine v_iload X dX10_hang_114 4 rfl ?_
                refine v_aload_n X dX10_hang_116 0 0 rfl rfl ?_
                refine v_iload_n X dX10_hang_117 1 1 rfl rfl ?_
                refine v_iconst (v := 4) X dX10_hang_118 (by decide) ?_
                refine t_callV X hK hd (ct_X10_of _ am p1 4) (lw_V q1994 q1996 qs59 q120 q1997) ⟨rfl, dn_X10_of⟩ rfl ⟨by omega, by omega⟩ rfl (Nat.le_of_ble_eq_true rfl) dX10_hang_119 (fun v33 ms hd => ?_)
                show V K 5 (mkM am hn ms) 122 [(0, .ref am), (1, .int p1), (2, .int p2), (3, .int (b2i p3)), (4, .int s24)] [.int v33, .int s24, .int p2, .int (p1 + 1), .ref am]
                obtain ⟨u34, m1, hd, hd2⟩ := TM.bind_some hd
                have KJ : V K 5 (mkM am hn m1) 135 [(0, .ref am), (1, .int p1), (2, .int p2), (3, .int (b2i p3)), (4, .int s24)] [.int u34, .int p2, .int (p1 + 1), .ref am] := by
                  clear hd
                  have hd := hd2
                  refine v_iadd X dX10_hang_135 ?_
                  refine v_iload_n X dX10_hang_136 3 3 rfl rfl ?_
                  refine t_callV X hK hd (ih (p1 + 1) (p2 + u34) p3) (lw_V q2061 q2063 qs69 q120 q2064) ⟨rfl, dn_X10_hang⟩ rfl ⟨by omega, by omega⟩ rfl (Nat.le_of_ble_eq_true rfl) dX10_hang_137 (fun v35 ms hd => ?_)
                  show V K 5 (mkM am hn ms) 140 [(0, .ref am), (1, .int p1), (2, .int p2), (3, .int (b2i p3)), (4, .int s24)] []
                  exact v_loc [0, 1, 2, 3, 4] rfl (t_at (P := fun (u30 : Unit) m => V K 5 (mkM am hn m) 140 [(0, .ref am), (1, .int p1), (2, .int p2), (3, .int (b2i p3)), (4, .int s24)] []) hd KJ)
                clear hd2
                refine v_icmp_ne (tgt := 129) X dX10_hang_122 (by decide) (fun q => ?_) (fun q => ?_)
                · have hd := Tite_f q hd
                  refine v_aload_n X dX10_hang_129 0 0 rfl rfl ?_
                  refine v_iload_n X dX10_hang_130 1 1 rfl rfl ?_
                  refine v_iload_n X dX10_hang_131 3 3 rfl rfl ?_
                  refine t_callV X hK hd (ct_X10_weightOf _ am p1 p3) (lw_V q2069 q2071 qs71 q120 q2072) ⟨rfl, dn_X10_weightOf⟩ rfl ⟨by omega, by omega⟩ rfl (Nat.le_of_ble_eq_true rfl) dX10_hang_132 (fun v36 ms hd => ?_)
                  show V K 5 (mkM am hn ms) 135 [(0, .ref am), (1, .int p1), (2, .int p2), (3, .int (b2i p3)), (4, .int s24)] [.int v36, .int p2, .int (p1 + 1), .ref am]
                  exact v_loc [0, 1, 2, 3, 4] rfl (t_at (P := fun (u34 : Int32) m => V K 5 (mkM am hn m) 135 [(0, .ref am), (1, .int p1), (2, .int p2), (3, .int (b2i p3)), (4, .int s24)] [.int u34, .int p2, .int (p1 + 1), .ref am]) hd KJ)
                · have hd := Tite_t q hd
                  refine v_iconst (v := 0) X dX10_hang_125 (by decide) ?_
                  refine v_goto (tgt := 135) X dX10_hang_126 (by decide) ?_
                  exact v_loc [0, 1, 2, 3, 4] rfl (t_at (P := fun (u34 : Int32) m => V K 5 (mkM am hn m) 135 [(0, .ref am), (1, .int p1), (2, .int p2), (3, .int (b2i p3)), (4, .int s24)] [.int u34, .int p2, .int (p1 + 1), .ref am]) hd KJ)
              · have hd := Tcnd_f q hd
                refine v_goto (tgt := 140) X dX10_hang_98 (by decide) ?_
                exact v_loc [0, 1, 2, 3, 4] rfl (t_at (P := fun (u30 : Unit) m => V K 5 (mkM am hn m) 140 [(0, .ref am), (1, .int p1), (2, .int p2), (3, .int (b2i p3)), (4, .int s24)] []) hd KJ)
        · have hd := Tite_t q hd
          refine v_aload_n X dX10_hang_25 0 0 rfl rfl ?_
          refine v_iload_n X dX10_hang_26 2 2 rfl rfl ?_
          refine t_putI X hd rfl fp_X10_306 dX10_hang_27 (fun ms hd => ?_)
          refine v_iconst (v := 0) X dX10_hang_30 (by decide) ?_
          refine v_istore (lv2 := [(4, .int 0), (0, .ref am), (1, .int p1), (2, .int p2), (3, .int (b2i p3))]) X dX10_hang_31 (by decide) rfl ?_
          obtain ⟨e40, m1, hd, hd2⟩ := TM.bind_some hd
          have KX : V K 5 (mkM am hn m1) 59 [] [] := by
            clear hd
            have hd := hd2
            exact t_vret X hK hd ho dX10_hang_59
          clear hd2
          refine v_loc [1, 2, 0] rfl ?_
          refine Tloop_ind hd (fun (s37 : Int32) m => V K 5 (mkM am hn m) 33 [(0, .ref am), (1, .int p1), (4, .int s37)] []) (fun s37 ms x m2 hd ih38 ho39 => ?_)
          refine v_iload X dX10_hang_33 2 rfl ?_
          refine v_iload_n X dX10_hang_35 1 1 rfl rfl ?_
          refine v_icmp_ge (tgt := 59) X dX10_hang_36 (by decide) (fun q => ?_) (fun q => ?_)
          · have hd := Tite_t q hd
            exact v_loc [] rfl (t_at (P := fun (e40 : Unit) m => V K 5 (mkM am hn m) 59 [] []) (Tlp_out hd ho39) KX)
          · have hd := Tite_f q hd
            refine v_aload_n X dX10_hang_39 0 0 rfl rfl ?_
            refine t_getA (j := 15) X rfl fl_X10_57 dX10_hang_40 ?_
            refine v_iload X dX10_hang_43 2 rfl ?_
            refine v_aload_n X dX10_hang_45 0 0 rfl rfl ?_
            refine t_getA (j := 14) X rfl fl_X10_54 dX10_hang_46 ?_
            refine v_iload X dX10_hang_49 2 rfl ?_
            refine t_iald (j := 14) X hd rfl dX10_hang_51 (fun v41 hd => ?_)
            refine t_iast (j := 15) X hd rfl dX10_hang_52 (fun ms hd => ?_)
            refine t_iincL (lv2 := fun v42 => [(4, .int v42), (0, .ref am), (1, .int p1)]) X hd dX10_hang_53 2 rfl (by decide : Int32.ofInt 1 = 1) (by decide) (fun v42 => rfl) (fun v42 hd => ?_)
            refine v_goto (tgt := 33) X dX10_hang_56 (by decide) ?_
            exact v_loc [1, 2, 0] rfl (Tlp_in (P := fun (s37 : Int32) m => V K 5 (mkM am hn m) 33 [(0, .ref am), (1, .int p1), (4, .int s37)] []) hd ih38)
      · have hd := Tite_f q hd
        exact t_vret X hK hd ho dX10_hang_16
def dkwX10_bad_1 : List UInt8 := [181, 0, 181, 3, 172]
abbrev dktX10_bad_1 : List UInt8 := dkwX10_bad_1 ++ []
def dkwX10_bad_0 : List UInt8 := [42, 42, 180, 0, 131, 4, 160, 0, 7, 4, 167, 0, 4, 27, 181, 0, 178, 42, 42, 180, 0, 125]
abbrev dktX10_bad_0 : List UInt8 := dkwX10_bad_0 ++ dktX10_bad_1
theorem dksX10_bad_0 : cX10_bad.data.toList.drop 0 = dktX10_bad_0 := by decide +kernel
theorem dksX10_bad_1 : cX10_bad.data.toList.drop 22 = dktX10_bad_1 := dk_seg dksX10_bad_0 22 rfl rfl
theorem dX10_bad_0 : decode cX10_bad 0 = .ok (.aload_n 0, 1) := dk_42 (dk_at dksX10_bad_0 0 rfl rfl)
theorem dX10_bad_1 : decode cX10_bad 1 = .ok (.aload_n 0, 1) := dk_42 (dk_at dksX10_bad_0 1 rfl rfl)
theorem dX10_bad_2 : decode cX10_bad 2 = .ok (.getfield 131, 3) := dk_180 0 131 (dk_at dksX10_bad_0 2 rfl rfl)
theorem dX10_bad_5 : decode cX10_bad 5 = .ok (.iconst 1, 1) := dk_4 (dk_at dksX10_bad_0 5 rfl rfl)
theorem dX10_bad_6 : decode cX10_bad 6 = .ok (.if_icmp .ne 7, 3) := dk_160 0 7 (dk_at dksX10_bad_0 6 rfl rfl)
theorem dX10_bad_9 : decode cX10_bad 9 = .ok (.iconst 1, 1) := dk_4 (dk_at dksX10_bad_0 9 rfl rfl)
theorem dX10_bad_10 : decode cX10_bad 10 = .ok (.goto 4, 3) := dk_167 0 4 (dk_at dksX10_bad_0 10 rfl rfl)
theorem dX10_bad_13 : decode cX10_bad 13 = .ok (.iload_n 1, 1) := dk_27 (dk_at dksX10_bad_0 13 rfl rfl)
theorem dX10_bad_14 : decode cX10_bad 14 = .ok (.putfield 178, 3) := dk_181 0 178 (dk_at dksX10_bad_0 14 rfl rfl)
theorem dX10_bad_17 : decode cX10_bad 17 = .ok (.aload_n 0, 1) := dk_42 (dk_at dksX10_bad_0 17 rfl rfl)
theorem dX10_bad_18 : decode cX10_bad 18 = .ok (.aload_n 0, 1) := dk_42 (dk_at dksX10_bad_0 18 rfl rfl)
theorem dX10_bad_19 : decode cX10_bad 19 = .ok (.getfield 125, 3) := dk_180 0 125 (dk_at dksX10_bad_0 19 rfl rfl)
theorem dX10_bad_22 : decode cX10_bad 22 = .ok (.putfield 181, 3) := dk_181 0 181 (dk_at dksX10_bad_1 0 rfl rfl)
theorem dX10_bad_25 : decode cX10_bad 25 = .ok (.iconst 0, 1) := dk_3 (dk_at dksX10_bad_1 3 rfl rfl)
theorem dX10_bad_26 : decode cX10_bad 26 = .ok (.ireturn, 1) := dk_172 (dk_at dksX10_bad_1 4 rfl rfl)
theorem fl_X10_125 : gFl "BitingDoorsModel" 125 [8] 6 := by
  intro args s hts hN ci hc
  simp only [List.mem_cons, List.not_mem_nil, or_false] at hc
  subst hc
  exact ⟨RX10, TX10, 64, "BitingDoorsModel", gCl_X10, in_X10, by decide, Or.inl (hts _ q1656), fun _ h => h⟩
theorem fp_X10_178 {nm : String} : gFp "BitingDoorsModel" nm 178 [8] 10 .int := by
  intro args s hts hN ci hc
  simp only [List.mem_cons, List.not_mem_nil, or_false] at hc
  subst hc
  exact ⟨RX10, TX10, 64, "BitingDoorsModel", gCl_X10, in_X10, by decide, Or.inl ⟨rfl, Or.inl (hts _ q1660)⟩, fun _ h => h, rfl, fun D tys hK => gap_X10 hts hK⟩
theorem fp_X10_181 {nm : String} : gFp "BitingDoorsModel" nm 181 [8] 11 .int := by
  intro args s hts hN ci hc
  simp only [List.mem_cons, List.not_mem_nil, or_false] at hc
  subst hc
  exact ⟨RX10, TX10, 64, "BitingDoorsModel", gCl_X10, in_X10, by decide, Or.inl ⟨rfl, Or.inl (hts _ q1661)⟩, fun _ h => h, rfl, fun D tys hK => gap_X10 hts hK⟩
theorem dn_X10_bad : yX10_bad.cls ≠ "java/lang/invoke/MethodHandle" ∧ yX10_bad.cls ≠ "java/lang/invoke/VarHandle" ∧ (parseMethodDescriptor yX10_bad.desc).map (fun d => d.parameters.length) = some 1 := by decide +kernel
noncomputable def M_X10_bad (p1 : Int32) : TM Bool := TM.bind (tI 7) (fun v1 => TM.bind ((if v1 = 1 then TM.pure 1 else TM.pure p1 : TM (Int32))) (fun u2 => TM.bind (sI 10 u2) (fun _ => TM.bind (tI 6) (fun v3 => TM.bind (sI 11 v3) (fun _ => TM.pure false)))))
set_option maxHeartbeats 4000000 in
theorem ct_X10_bad (G : gG) (am : Nat) (p1 : Int32) : gCtM G am yX10_bad cX10_bad 2 (some .boolean) 0 0 [.ref am, .int p1] (M_X10_bad p1) (fun x : Bool => some (.int (b2i x))) := by
  refine gCtM.of (by decide) (Nat.le_of_ble_eq_true rfl) (fun K hn ms ms' r hG X hK hd ho => ?_)
  subst hG
  have X : gX K cX10_bad 2 "BitingDoorsModel" "bad" (some .boolean) 0 0 := X
  show V K 2 (mkM am hn ms) 0 [(0, .ref am), (1, .int p1)] []
  unfold M_X10_bad at hd
  refine v_aload_n X dX10_bad_0 0 0 rfl rfl ?_
  refine v_aload_n X dX10_bad_1 0 0 rfl rfl ?_
  refine t_getI X hd rfl fl_X10_131 dX10_bad_2 (fun v1 hd => ?_)
  refine v_iconst (v := 1) X dX10_bad_5 (by decide) ?_
  obtain ⟨u2, m1, hd, hd2⟩ := TM.bind_some hd
  have KJ : V K 2 (mkM am hn m1) 14 [(0, .ref am)] [.int u2, .ref am] := by
    clear hd
    have hd := hd2
    refine t_putI X hd rfl fp_X10_178 dX10_bad_14 (fun ms hd => ?_)
    refine v_aload_n X dX10_bad_17 0 0 rfl rfl ?_
    refine v_aload_n X dX10_bad_18 0 0 rfl rfl ?_
    refine t_getI X hd rfl fl_X10_125 dX10_bad_19 (fun v3 hd => ?_)
    refine t_putI X hd rfl fp_X10_181 dX10_bad_22 (fun ms hd => ?_)
    refine v_iconst (v := 0) X dX10_bad_25 (by decide) ?_
    exact t_zret X hK hd rfl ho dX10_bad_26
  clear hd2
  refine v_icmp_ne (tgt := 13) X dX10_bad_6 (by decide) (fun q => ?_) (fun q => ?_)
  · have hd := Tite_f q hd
    refine v_iload_n X dX10_bad_13 1 1 rfl rfl ?_
    exact v_loc [0] rfl (t_at (P := fun (u2 : Int32) m => V K 2 (mkM am hn m) 14 [(0, .ref am)] [.int u2, .ref am]) hd KJ)
  · have hd := Tite_t q hd
    refine v_iconst (v := 1) X dX10_bad_9 (by decide) ?_
    refine v_goto (tgt := 14) X dX10_bad_10 (by decide) ?_
    exact v_loc [0] rfl (t_at (P := fun (u2 : Int32) m => V K 2 (mkM am hn m) 14 [(0, .ref am)] [.int u2, .ref am]) hd KJ)
def dkwX10_byteAt_0 : List UInt8 := [27, 42, 180, 0, 119, 162, 0, 12, 42, 180, 0, 7, 27, 46, 167, 0, 4, 3, 172]
abbrev dktX10_byteAt_0 : List UInt8 := dkwX10_byteAt_0 ++ []
theorem dksX10_byteAt_0 : cX10_byteAt.data.toList.drop 0 = dktX10_byteAt_0 := by decide +kernel
theorem dX10_byteAt_0 : decode cX10_byteAt 0 = .ok (.iload_n 1, 1) := dk_27 (dk_at dksX10_byteAt_0 0 rfl rfl)
theorem dX10_byteAt_1 : decode cX10_byteAt 1 = .ok (.aload_n 0, 1) := dk_42 (dk_at dksX10_byteAt_0 1 rfl rfl)
theorem dX10_byteAt_2 : decode cX10_byteAt 2 = .ok (.getfield 119, 3) := dk_180 0 119 (dk_at dksX10_byteAt_0 2 rfl rfl)
theorem dX10_byteAt_5 : decode cX10_byteAt 5 = .ok (.if_icmp .ge 12, 3) := dk_162 0 12 (dk_at dksX10_byteAt_0 5 rfl rfl)
theorem dX10_byteAt_8 : decode cX10_byteAt 8 = .ok (.aload_n 0, 1) := dk_42 (dk_at dksX10_byteAt_0 8 rfl rfl)
theorem dX10_byteAt_9 : decode cX10_byteAt 9 = .ok (.getfield 7, 3) := dk_180 0 7 (dk_at dksX10_byteAt_0 9 rfl rfl)
theorem dX10_byteAt_12 : decode cX10_byteAt 12 = .ok (.iload_n 1, 1) := dk_27 (dk_at dksX10_byteAt_0 12 rfl rfl)
theorem dX10_byteAt_13 : decode cX10_byteAt 13 = .ok (.iaload, 1) := dk_46 (dk_at dksX10_byteAt_0 13 rfl rfl)
theorem dX10_byteAt_14 : decode cX10_byteAt 14 = .ok (.goto 4, 3) := dk_167 0 4 (dk_at dksX10_byteAt_0 14 rfl rfl)
theorem dX10_byteAt_17 : decode cX10_byteAt 17 = .ok (.iconst 0, 1) := dk_3 (dk_at dksX10_byteAt_0 17 rfl rfl)
theorem dX10_byteAt_18 : decode cX10_byteAt 18 = .ok (.ireturn, 1) := dk_172 (dk_at dksX10_byteAt_0 18 rfl rfl)
theorem fl_X10_119 : gFl "BitingDoorsModel" 119 [8] 3 := by
  intro args s hts hN ci hc
  simp only [List.mem_cons, List.not_mem_nil, or_false] at hc
  subst hc
  exact ⟨RX10, TX10, 64, "BitingDoorsModel", gCl_X10, in_X10, by decide, Or.inl (hts _ q1653), fun _ h => h⟩
theorem fl_X10_7 : gFl "BitingDoorsModel" 7 [8] 1 := by
  intro args s hts hN ci hc
  simp only [List.mem_cons, List.not_mem_nil, or_false] at hc
  subst hc
  exact ⟨RX10, TX10, 64, "BitingDoorsModel", gCl_X10, in_X10, by decide, Or.inl (hts _ q1651), fun _ h => h⟩
theorem dn_X10_byteAt : yX10_byteAt.cls ≠ "java/lang/invoke/MethodHandle" ∧ yX10_byteAt.cls ≠ "java/lang/invoke/VarHandle" ∧ (parseMethodDescriptor yX10_byteAt.desc).map (fun d => d.parameters.length) = some 1 := by decide +kernel
noncomputable def M_X10_byteAt (p1 : Int32) : TM Int32 := TM.bind (tI 3) (fun v1 => TM.bind ((if v1 ≤ p1 then TM.pure 0 else TM.bind (tA 1 940 p1) (fun v3 => TM.pure v3) : TM (Int32))) (fun u2 => TM.pure u2))
set_option maxHeartbeats 4000000 in
theorem ct_X10_byteAt (G : gG) (am : Nat) (p1 : Int32) : gCtM G am yX10_byteAt cX10_byteAt 2 (some .int) 0 0 [.ref am, .int p1] (M_X10_byteAt p1) (fun x : Int32 => some (.int x)) := by
  refine gCtM.of (by decide) (Nat.le_of_ble_eq_true rfl) (fun K hn ms ms' r hG X hK hd ho => ?_)
  subst hG
  have X : gX K cX10_byteAt 2 "BitingDoorsModel" "byteAt" (some .int) 0 0 := X
  show V K 2 (mkM am hn ms) 0 [(0, .ref am), (1, .int p1)] []
  unfold M_X10_byteAt at hd
  refine v_iload_n X dX10_byteAt_0 1 1 rfl rfl ?_
  refine v_aload_n X dX10_byteAt_1 0 0 rfl rfl ?_
  refine t_getI X hd rfl fl_X10_119 dX10_byteAt_2 (fun v1 hd => ?_)
  obtain ⟨u2, m1, hd, hd2⟩ := TM.bind_some hd
  have KJ : V K 2 (mkM am hn m1) 18 [] [.int u2] := by
    clear hd
    have hd := hd2
    exact t_iret X hK hd ho dX10_byteAt_18
  clear hd2
  refine v_icmp_ge (tgt := 17) X dX10_byteAt_5 (by decide) (fun q => ?_) (fun q => ?_)
  · have hd := Tite_t q hd
    refine v_iconst (v := 0) X dX10_byteAt_17 (by decide) ?_
    exact v_loc [] rfl (t_at (P := fun (u2 : Int32) m => V K 2 (mkM am hn m) 18 [] [.int u2]) hd KJ)
  · have hd := Tite_f q hd
    refine v_aload_n X dX10_byteAt_8 0 0 rfl rfl ?_
    refine t_getA (j := 0) X rfl fl_X10_7 dX10_byteAt_9 ?_
    refine v_iload_n X dX10_byteAt_12 1 1 rfl rfl ?_
    refine t_iald (j := 0) X hd rfl dX10_byteAt_13 (fun v3 hd => ?_)
    refine v_goto (tgt := 18) X dX10_byteAt_14 (by decide) ?_
    exact v_loc [] rfl (t_at (P := fun (u2 : Int32) m => V K 2 (mkM am hn m) 18 [] [.int u2]) hd KJ)
def dkwX10_isDigit_0 : List UInt8 := [26, 16, 48, 161, 0, 13, 26, 16, 57, 163, 0, 7, 4, 167, 0, 4, 3, 172]
abbrev dktX10_isDigit_0 : List UInt8 := dkwX10_isDigit_0 ++ []
theorem dksX10_isDigit_0 : cX10_isDigit.data.toList.drop 0 = dktX10_isDigit_0 := by decide +kernel
theorem dX10_isDigit_0 : decode cX10_isDigit 0 = .ok (.iload_n 0, 1) := dk_26 (dk_at dksX10_isDigit_0 0 rfl rfl)
theorem dX10_isDigit_1 : decode cX10_isDigit 1 = .ok (.bipush 48, 2) := dk_16 48 (dk_at dksX10_isDigit_0 1 rfl rfl)
theorem dX10_isDigit_3 : decode cX10_isDigit 3 = .ok (.if_icmp .lt 13, 3) := dk_161 0 13 (dk_at dksX10_isDigit_0 3 rfl rfl)
theorem dX10_isDigit_6 : decode cX10_isDigit 6 = .ok (.iload_n 0, 1) := dk_26 (dk_at dksX10_isDigit_0 6 rfl rfl)
theorem dX10_isDigit_7 : decode cX10_isDigit 7 = .ok (.bipush 57, 2) := dk_16 57 (dk_at dksX10_isDigit_0 7 rfl rfl)
theorem dX10_isDigit_9 : decode cX10_isDigit 9 = .ok (.if_icmp .gt 7, 3) := dk_163 0 7 (dk_at dksX10_isDigit_0 9 rfl rfl)
theorem dX10_isDigit_12 : decode cX10_isDigit 12 = .ok (.iconst 1, 1) := dk_4 (dk_at dksX10_isDigit_0 12 rfl rfl)
theorem dX10_isDigit_13 : decode cX10_isDigit 13 = .ok (.goto 4, 3) := dk_167 0 4 (dk_at dksX10_isDigit_0 13 rfl rfl)
theorem dX10_isDigit_16 : decode cX10_isDigit 16 = .ok (.iconst 0, 1) := dk_3 (dk_at dksX10_isDigit_0 16 rfl rfl)
theorem dX10_isDigit_17 : decode cX10_isDigit 17 = .ok (.ireturn, 1) := dk_172 (dk_at dksX10_isDigit_0 17 rfl rfl)
theorem dn_X10_isDigit : yX10_isDigit.cls ≠ "java/lang/invoke/MethodHandle" ∧ yX10_isDigit.cls ≠ "java/lang/invoke/VarHandle" ∧ (parseMethodDescriptor yX10_isDigit.desc).map (fun d => d.parameters.length) = some 1 := by decide +kernel
noncomputable def M_X10_isDigit (p1 : Int32) : TM Bool := TM.bind ((if p1 < 48 then TM.pure false else if 57 < p1 then TM.pure false else TM.pure true : TM (Bool))) (fun u1 => TM.pure u1)
set_option maxHeartbeats 4000000 in
theorem ct_X10_isDigit (G : gG) (am : Nat) (p1 : Int32) : gCtM G am yX10_isDigit cX10_isDigit 1 (some .boolean) 0 0 [.int p1] (M_X10_isDigit p1) (fun x : Bool => some (.int (b2i x))) := by
  refine gCtM.of (by decide) (Nat.le_of_ble_eq_true rfl) (fun K hn ms ms' r hG X hK hd ho => ?_)
  subst hG
  have X : gX K cX10_isDigit 1 "BitingDoorsModel" "isDigit" (some .boolean) 0 0 := X
  show V K 1 (mkM am hn ms) 0 [(0, .int p1)] []
  unfold M_X10_isDigit at hd
  refine v_iload_n X dX10_isDigit_0 0 0 rfl rfl ?_
  refine v_bipush (v := 48) X dX10_isDigit_1 (by decide) ?_
  obtain ⟨u1, m1, hd, hd2⟩ := TM.bind_some hd
  have KJ : V K 1 (mkM am hn m1) 17 [] [.int (b2i u1)] := by
    clear hd
    have hd := hd2
    exact t_zret X hK hd rfl ho dX10_isDigit_17
  clear hd2
  refine v_icmp_lt (tgt := 16) X dX10_isDigit_3 (by decide) (fun q => ?_) (fun q => ?_)
  · have hd := Tite_t q hd
    refine v_iconst (v := 0) X dX10_isDigit_16 (by decide) ?_
    exact v_loc [] rfl (t_at (P := fun (u1 : Bool) m => V K 1 (mkM am hn m) 17 [] [.int (b2i u1)]) hd KJ)
  · have hd := Tite_f q hd
    refine v_iload_n X dX10_isDigit_6 0 0 rfl rfl ?_
    refine v_bipush (v := 57) X dX10_isDigit_7 (by decide) ?_
    refine v_icmp_gt (tgt := 16) X dX10_isDigit_9 (by decide) (fun q => ?_) (fun q => ?_)
    · have hd := Tite_t q hd
      refine v_iconst (v := 0) X dX10_isDigit_16 (by decide) ?_
      exact v_loc [] rfl (t_at (P := fun (u1 : Bool) m => V K 1 (mkM am hn m) 17 [] [.int (b2i u1)]) hd KJ)
    · have hd := Tite_f q hd
      refine v_iconst (v := 1) X dX10_isDigit_12 (by decide) ?_
      refine v_goto (tgt := 17) X dX10_isDigit_13 (by decide) ?_
      exact v_loc [] rfl (t_at (P := fun (u1 : Bool) m => V K 1 (mkM am hn m) 17 [] [.int (b2i u1)]) hd KJ)
def dkwX10_isLetter_0 : List UInt8 := [26, 16, 97, 161, 0, 13, 26, 16, 122, 163, 0, 7, 4, 167, 0, 4, 3, 172]
abbrev dktX10_isLetter_0 : List UInt8 := dkwX10_isLetter_0 ++ []
theorem dksX10_isLetter_0 : cX10_isLetter.data.toList.drop 0 = dktX10_isLetter_0 := by decide +kernel
theorem dX10_isLetter_0 : decode cX10_isLetter 0 = .ok (.iload_n 0, 1) := dk_26 (dk_at dksX10_isLetter_0 0 rfl rfl)
theorem dX10_isLetter_1 : decode cX10_isLetter 1 = .ok (.bipush 97, 2) := dk_16 97 (dk_at dksX10_isLetter_0 1 rfl rfl)
theorem dX10_isLetter_3 : decode cX10_isLetter 3 = .ok (.if_icmp .lt 13, 3) := dk_161 0 13 (dk_at dksX10_isLetter_0 3 rfl rfl)
theorem dX10_isLetter_6 : decode cX10_isLetter 6 = .ok (.iload_n 0, 1) := dk_26 (dk_at dksX10_isLetter_0 6 rfl rfl)
theorem dX10_isLetter_7 : decode cX10_isLetter 7 = .ok (.bipush 122, 2) := dk_16 122 (dk_at dksX10_isLetter_0 7 rfl rfl)
theorem dX10_isLetter_9 : decode cX10_isLetter 9 = .ok (.if_icmp .gt 7, 3) := dk_163 0 7 (dk_at dksX10_isLetter_0 9 rfl rfl)
theorem dX10_isLetter_12 : decode cX10_isLetter 12 = .ok (.iconst 1, 1) := dk_4 (dk_at dksX10_isLetter_0 12 rfl rfl)
theorem dX10_isLetter_13 : decode cX10_isLetter 13 = .ok (.goto 4, 3) := dk_167 0 4 (dk_at dksX10_isLetter_0 13 rfl rfl)
theorem dX10_isLetter_16 : decode cX10_isLetter 16 = .ok (.iconst 0, 1) := dk_3 (dk_at dksX10_isLetter_0 16 rfl rfl)
theorem dX10_isLetter_17 : decode cX10_isLetter 17 = .ok (.ireturn, 1) := dk_172 (dk_at dksX10_isLetter_0 17 rfl rfl)
theorem dn_X10_isLetter : yX10_isLetter.cls ≠ "java/lang/invoke/MethodHandle" ∧ yX10_isLetter.cls ≠ "java/lang/invoke/VarHandle" ∧ (parseMethodDescriptor yX10_isLetter.desc).map (fun d => d.parameters.length) = some 1 := by decide +kernel
noncomputable def M_X10_isLetter (p1 : Int32) : TM Bool := TM.bind ((if p1 < 97 then TM.pure false else if 122 < p1 then TM.pure false else TM.pure true : TM (Bool))) (fun u1 => TM.pure u1)
set_option maxHeartbeats 4000000 in
theorem ct_X10_isLetter (G : gG) (am : Nat) (p1 : Int32) : gCtM G am yX10_isLetter cX10_isLetter 1 (some .boolean) 0 0 [.int p1] (M_X10_isLetter p1) (fun x : Bool => some (.int (b2i x))) := by
  refine gCtM.of (by decide) (Nat.le_of_ble_eq_true rfl) (fun K hn ms ms' r hG X hK hd ho => ?_)
  subst hG
  have X : gX K cX10_isLetter 1 "BitingDoorsModel" "isLetter" (some .boolean) 0 0 := X
  show V K 1 (mkM am hn ms) 0 [(0, .int p1)] []
  unfold M_X10_isLetter at hd
  refine v_iload_n X dX10_isLetter_0 0 0 rfl rfl ?_
  refine v_bipush (v := 97) X dX10_isLetter_1 (by decide) ?_
  obtain ⟨u1, m1, hd, hd2⟩ := TM.bind_some hd
  have KJ : V K 1 (mkM am hn m1) 17 [] [.int (b2i u1)] := by
    clear hd
    have hd := hd2
    exact t_zret X hK hd rfl ho dX10_isLetter_17
  clear hd2
  refine v_icmp_lt (tgt := 16) X dX10_isLetter_3 (by decide) (fun q => ?_) (fun q => ?_)
  · have hd := Tite_t q hd
    refine v_iconst (v := 0) X dX10_isLetter_16 (by decide) ?_
    exact v_loc [] rfl (t_at (P := fun (u1 : Bool) m => V K 1 (mkM am hn m) 17 [] [.int (b2i u1)]) hd KJ)
  · have hd := Tite_f q hd
    refine v_iload_n X dX10_isLetter_6 0 0 rfl rfl ?_
    refine v_bipush (v := 122) X dX10_isLetter_7 (by decide) ?_
    refine v_icmp_gt (tgt := 16) X dX10_isLetter_9 (by decide) (fun q => ?_) (fun q => ?_)
    · have hd := Tite_t q hd
      refine v_iconst (v := 0) X dX10_isLetter_16 (by decide) ?_
      exact v_loc [] rfl (t_at (P := fun (u1 : Bool) m => V K 1 (mkM am hn m) 17 [] [.int (b2i u1)]) hd KJ)
    · have hd := Tite_f q hd
      refine v_iconst (v := 1) X dX10_isLetter_12 (by decide) ?_
      refine v_goto (tgt := 17) X dX10_isLetter_13 (by decide) ?_
      exact v_loc [] rfl (t_at (P := fun (u1 : Bool) m => V K 1 (mkM am hn m) 17 [] [.int (b2i u1)]) hd KJ)
def dkwX10_go_16 : List UInt8 := [167, 0, 4, 5, 164, 0, 7, 4, 167, 0, 12, 28, 153, 0, 7, 5, 167, 0, 4, 6, 181, 0, 131, 177]
abbrev dktX10_go_16 : List UInt8 := dkwX10_go_16 ++ []
def dkwX10_go_15 : List UInt8 := [167, 255, 124, 42, 29, 153, 0, 25, 42, 180, 0, 122, 42, 180, 0, 125, 100, 28, 153, 0, 8, 16, 10]
abbrev dktX10_go_15 : List UInt8 := dkwX10_go_15 ++ dktX10_go_16
def dkwX10_go_14 : List UInt8 := [180, 0, 148, 104, 21, 4, 96, 16, 48, 100, 181, 0, 148, 42, 89, 180, 0, 122, 4, 96, 181, 0, 122]
abbrev dktX10_go_14 : List UInt8 := dkwX10_go_14 ++ dktX10_go_15
def dkwX10_go_13 : List UInt8 := [20, 0, 157, 101, 181, 0, 144, 42, 180, 0, 122, 42, 180, 0, 125, 100, 5, 162, 0, 20, 42, 16, 10, 42]
abbrev dktX10_go_13 : List UInt8 := dkwX10_go_13 ++ dktX10_go_14
def dkwX10_go_12 : List UInt8 := [180, 0, 125, 100, 16, 10, 162, 0, 23, 42, 20, 0, 155, 42, 180, 0, 144, 105, 21, 4, 133, 97]
abbrev dktX10_go_12 : List UInt8 := dkwX10_go_12 ++ dktX10_go_13
def dkwX10_go_11 : List UInt8 := [153, 0, 16, 21, 4, 184, 0, 134, 28, 160, 0, 7, 4, 167, 0, 4, 3, 62, 42, 180, 0, 122, 42]
abbrev dktX10_go_11 : List UInt8 := dkwX10_go_11 ++ dktX10_go_12
def dkwX10_go_10 : List UInt8 := [180, 0, 122, 182, 0, 151, 184, 0, 138, 153, 0, 110, 42, 180, 0, 7, 42, 180, 0, 122, 46, 54, 4, 29]
abbrev dktX10_go_10 : List UInt8 := dkwX10_go_10 ++ dktX10_go_11
def dkwX10_go_9 : List UInt8 := [181, 0, 144, 42, 3, 181, 0, 148, 42, 42, 180, 0, 122, 182, 0, 151, 184, 0, 134, 154, 0, 17, 42, 42]
abbrev dktX10_go_9 : List UInt8 := dkwX10_go_9 ++ dktX10_go_10
def dkwX10_go_8 : List UInt8 := [181, 0, 141, 42, 89, 180, 0, 122, 4, 96, 181, 0, 122, 177, 27, 184, 0, 134, 61, 4, 62, 42, 9]
abbrev dktX10_go_8 : List UInt8 := dkwX10_go_8 ++ dktX10_go_9
def dkwX10_go_7 : List UInt8 := [27, 16, 40, 159, 0, 9, 27, 16, 41, 160, 0, 7, 7, 167, 0, 4, 4, 181, 0, 131, 42, 27]
abbrev dktX10_go_7 : List UInt8 := dkwX10_go_7 ++ dktX10_go_8
def dkwX10_go_6 : List UInt8 := [27, 16, 59, 159, 0, 33, 27, 16, 60, 159, 0, 27, 27, 16, 61, 159, 0, 21, 27, 16, 62, 159, 0, 15]
abbrev dktX10_go_6 : List UInt8 := dkwX10_go_6 ++ dktX10_go_7
def dkwX10_go_5 : List UInt8 := [180, 0, 7, 42, 180, 0, 122, 46, 60, 27, 184, 0, 134, 154, 0, 71, 27, 184, 0, 138, 154, 0, 64, 42]
abbrev dktX10_go_5 : List UInt8 := dkwX10_go_5 ++ dktX10_go_6
def dkwX10_go_4 : List UInt8 := [181, 0, 131, 177, 42, 180, 0, 122, 42, 180, 0, 119, 161, 0, 9, 42, 3, 181, 0, 131, 177, 42]
abbrev dktX10_go_4 : List UInt8 := dkwX10_go_4 ++ dktX10_go_5
def dkwX10_go_3 : List UInt8 := [164, 0, 28, 42, 180, 0, 125, 42, 180, 0, 128, 161, 0, 17, 42, 42, 180, 0, 128, 181, 0, 125, 42, 4]
abbrev dktX10_go_3 : List UInt8 := dkwX10_go_3 ++ dktX10_go_4
def dkwX10_go_2 : List UInt8 := [181, 0, 122, 167, 255, 207, 42, 42, 180, 0, 122, 181, 0, 125, 42, 180, 0, 119, 42, 180, 0, 128]
abbrev dktX10_go_2 : List UInt8 := dkwX10_go_2 ++ dktX10_go_3
def dkwX10_go_1 : List UInt8 := [159, 0, 17, 42, 180, 0, 7, 42, 180, 0, 122, 46, 16, 10, 160, 0, 16, 42, 89, 180, 0, 122, 4, 96]
abbrev dktX10_go_1 : List UInt8 := dkwX10_go_1 ++ dktX10_go_2
def dkwX10_go_0 : List UInt8 := [42, 180, 0, 122, 42, 180, 0, 119, 162, 0, 44, 42, 180, 0, 7, 42, 180, 0, 122, 46, 16, 32]
abbrev dktX10_go_0 : List UInt8 := dkwX10_go_0 ++ dktX10_go_1
theorem dksX10_go_0 : cX10_go.data.toList.drop 0 = dktX10_go_0 := by decide +kernel
theorem dksX10_go_1 : cX10_go.data.toList.drop 22 = dktX10_go_1 := dk_seg dksX10_go_0 22 rfl rfl
theorem dksX10_go_2 : cX10_go.data.toList.drop 46 = dktX10_go_2 := dk_seg dksX10_go_1 24 rfl rfl
theorem dksX10_go_3 : cX10_go.data.toList.drop 68 = dktX10_go_3 := dk_seg dksX10_go_2 22 rfl rfl
theorem dksX10_go_4 : cX10_go.data.toList.drop 92 = dktX10_go_4 := dk_seg dksX10_go_3 24 rfl rfl
theorem dksX10_go_5 : cX10_go.data.toList.drop 114 = dktX10_go_5 := dk_seg dksX10_go_4 22 rfl rfl
theorem dksX10_go_6 : cX10_go.data.toList.drop 138 = dktX10_go_6 := dk_seg dksX10_go_5 24 rfl rfl
theorem dksX10_go_7 : cX10_go.data.toList.drop 162 = dktX10_go_7 := dk_seg dksX10_go_6 24 rfl rfl
theorem dksX10_go_8 : cX10_go.data.toList.drop 184 = dktX10_go_8 := dk_seg dksX10_go_7 22 rfl rfl
theorem dksX10_go_9 : cX10_go.data.toList.drop 207 = dktX10_go_9 := dk_seg dksX10_go_8 23 rfl rfl
theorem dksX10_go_10 : cX10_go.data.toList.drop 231 = dktX10_go_10 := dk_seg dksX10_go_9 24 rfl rfl
theorem dksX10_go_11 : cX10_go.data.toList.drop 255 = dktX10_go_11 := dk_seg dksX10_go_10 24 rfl rfl
theorem dksX10_go_12 : cX10_go.data.toList.drop 278 = dktX10_go_12 := dk_seg dksX10_go_11 23 rfl rfl
theorem dksX10_go_13 : cX10_go.data.toList.drop 300 = dktX10_go_13 := dk_seg dksX10_go_12 22 rfl rfl
theorem dksX10_go_14 : cX10_go.data.toList.drop 324 = dktX10_go_14 := dk_seg dksX10_go_13 24 rfl rfl
theorem dksX10_go_15 : cX10_go.data.toList.drop 347 = dktX10_go_15 := dk_seg dksX10_go_14 23 rfl rfl
theorem dksX10_go_16 : cX10_go.data.toList.drop 370 = dktX10_go_16 := dk_seg dksX10_go_15 23 rfl rfl
theorem dX10_go_0 : decode cX10_go 0 = .ok (.aload_n 0, 1) := dk_42 (dk_at dksX10_go_0 0 rfl rfl)
theorem dX10_go_1 : decode cX10_go 1 = .ok (.getfield 122, 3) := dk_180 0 122 (dk_at dksX10_go_0 1 rfl rfl)
theorem dX10_go_4 : decode cX10_go 4 = .ok (.aload_n 0, 1) := dk_42 (dk_at dksX10_go_0 4 rfl rfl)
theorem dX10_go_5 : decode cX10_go 5 = .ok (.getfield 119, 3) := dk_180 0 119 (dk_at dksX10_go_0 5 rfl rfl)
theorem dX10_go_8 : decode cX10_go 8 = .ok (.if_icmp .ge 44, 3) := dk_162 0 44 (dk_at dksX10_go_0 8 rfl rfl)
theorem dX10_go_11 : decode cX10_go 11 = .ok (.aload_n 0, 1) := dk_42 (dk_at dksX10_go_0 11 rfl rfl)
theorem dX10_go_12 : decode cX10_go 12 = .ok (.getfield 7, 3) := dk_180 0 7 (dk_at dksX10_go_0 12 rfl rfl)
theorem dX10_go_15 : decode cX10_go 15 = .ok (.aload_n 0, 1) := dk_42 (dk_at dksX10_go_0 15 rfl rfl)
theorem dX10_go_16 : decode cX10_go 16 = .ok (.getfield 122, 3) := dk_180 0 122 (dk_at dksX10_go_0 16 rfl rfl)
theorem dX10_go_19 : decode cX10_go 19 = .ok (.iaload, 1) := dk_46 (dk_at dksX10_go_0 19 rfl rfl)
theorem dX10_go_20 : decode cX10_go 20 = .ok (.bipush 32, 2) := dk_16 32 (dk_at dksX10_go_0 20 rfl rfl)
theorem dX10_go_22 : decode cX10_go 22 = .ok (.if_icmp .eq 17, 3) := dk_159 0 17 (dk_at dksX10_go_1 0 rfl rfl)
theorem dX10_go_25 : decode cX10_go 25 = .ok (.aload_n 0, 1) := dk_42 (dk_at dksX10_go_1 3 rfl rfl)
theorem dX10_go_26 : decode cX10_go 26 = .ok (.getfield 7, 3) := dk_180 0 7 (dk_at dksX10_go_1 4 rfl rfl)
theorem dX10_go_29 : decode cX10_go 29 = .ok (.aload_n 0, 1) := dk_42 (dk_at dksX10_go_1 7 rfl rfl)
theorem dX10_go_30 : decode cX10_go 30 = .ok (.getfield 122, 3) := dk_180 0 122 (dk_at dksX10_go_1 8 rfl rfl)
theorem dX10_go_33 : decode cX10_go 33 = .ok (.iaload, 1) := dk_46 (dk_at dksX10_go_1 11 rfl rfl)
theorem dX10_go_34 : decode cX10_go 34 = .ok (.bipush 10, 2) := dk_16 10 (dk_at dksX10_go_1 12 rfl rfl)
theorem dX10_go_36 : decode cX10_go 36 = .ok (.if_icmp .ne 16, 3) := dk_160 0 16 (dk_at dksX10_go_1 14 rfl rfl)
theorem dX10_go_39 : decode cX10_go 39 = .ok (.aload_n 0, 1) := dk_42 (dk_at dksX10_go_1 17 rfl rfl)
theorem dX10_go_40 : decode cX10_go 40 = .ok (.dup, 1) := dk_89 (dk_at dksX10_go_1 18 rfl rfl)
theorem dX10_go_41 : decode cX10_go 41 = .ok (.getfield 122, 3) := dk_180 0 122 (dk_at dksX10_go_1 19 rfl rfl)
theorem dX10_go_44 : decode cX10_go 44 = .ok (.iconst 1, 1) := dk_4 (dk_at dksX10_go_1 22 rfl rfl)
theorem dX10_go_45 : decode cX10_go 45 = .ok (.iadd, 1) := dk_96 (dk_at dksX10_go_1 23 rfl rfl)
theorem dX10_go_46 : decode cX10_go 46 = .ok (.putfield 122, 3) := dk_181 0 122 (dk_at dksX10_go_2 0 rfl rfl)
theorem dX10_go_49 : decode cX10_go 49 = .ok (.goto (-49), 3) := dk_167 255 207 (dk_at dksX10_go_2 3 rfl rfl)
theorem dX10_go_52 : decode cX10_go 52 = .ok (.aload_n 0, 1) := dk_42 (dk_at dksX10_go_2 6 rfl rfl)
theorem dX10_go_53 : decode cX10_go 53 = .ok (.aload_n 0, 1) := dk_42 (dk_at dksX10_go_2 7 rfl rfl)
theorem dX10_go_54 : decode cX10_go 54 = .ok (.getfield 122, 3) := dk_180 0 122 (dk_at dksX10_go_2 8 rfl rfl)
theorem dX10_go_57 : decode cX10_go 57 = .ok (.putfield 125, 3) := dk_181 0 125 (dk_at dksX10_go_2 11 rfl rfl)
theorem dX10_go_60 : decode cX10_go 60 = .ok (.aload_n 0, 1) := dk_42 (dk_at dksX10_go_2 14 rfl rfl)
theorem dX10_go_61 : decode cX10_go 61 = .ok (.getfield 119, 3) := dk_180 0 119 (dk_at dksX10_go_2 15 rfl rfl)
theorem dX10_go_64 : decode cX10_go 64 = .ok (.aload_n 0, 1) := dk_42 (dk_at dksX10_go_2 18 rfl rfl)
theorem dX10_go_65 : decode cX10_go 65 = .ok (.getfield 128, 3) := dk_180 0 128 (dk_at dksX10_go_2 19 rfl rfl)
theorem dX10_go_68 : decode cX10_go 68 = .ok (.if_icmp .le 28, 3) := dk_164 0 28 (dk_at dksX10_go_3 0 rfl rfl)
theorem dX10_go_71 : decode cX10_go 71 = .ok (.aload_n 0, 1) := dk_42 (dk_at dksX10_go_3 3 rfl rfl)
theorem dX10_go_72 : decode cX10_go 72 = .ok (.getfield 125, 3) := dk_180 0 125 (dk_at dksX10_go_3 4 rfl rfl)
theorem dX10_go_75 : decode cX10_go 75 = .ok (.aload_n 0, 1) := dk_42 (dk_at dksX10_go_3 7 rfl rfl)
theorem dX10_go_76 : decode cX10_go 76 = .ok (.getfield 128, 3) := dk_180 0 128 (dk_at dksX10_go_3 8 rfl rfl)
theorem dX10_go_79 : decode cX10_go 79 = .ok (.if_icmp .lt 17, 3) := dk_161 0 17 (dk_at dksX10_go_3 11 rfl rfl)
theorem dX10_go_82 : decode cX10_go 82 = .ok (.aload_n 0, 1) := dk_42 (dk_at dksX10_go_3 14 rfl rfl)
theorem dX10_go_83 : decode cX10_go 83 = .ok (.aload_n 0, 1) := dk_42 (dk_at dksX10_go_3 15 rfl rfl)
theorem dX10_go_84 : decode cX10_go 84 = .ok (.getfield 128, 3) := dk_180 0 128 (dk_at dksX10_go_3 16 rfl rfl)
theorem dX10_go_87 : decode cX10_go 87 = .ok (.putfield 125, 3) := dk_181 0 125 (dk_at dksX10_go_3 19 rfl rfl)
theorem dX10_go_90 : decode cX10_go 90 = .ok (.aload_n 0, 1) := dk_42 (dk_at dksX10_go_3 22 rfl rfl)
theorem dX10_go_91 : decode cX10_go 91 = .ok (.iconst 1, 1) := dk_4 (dk_at dksX10_go_3 23 rfl rfl)
theorem dX10_go_92 : decode cX10_go 92 = .ok (.putfield 131, 3) := dk_181 0 131 (dk_at dksX10_go_4 0 rfl rfl)
theorem dX10_go_95 : decode cX10_go 95 = .ok (.return_, 1) := dk_177 (dk_at dksX10_go_4 3 rfl rfl)
theorem dX10_go_96 : decode cX10_go 96 = .ok (.aload_n 0, 1) := dk_42 (dk_at dksX10_go_4 4 rfl rfl)
theorem dX10_go_97 : decode cX10_go 97 = .ok (.getfield 122, 3) := dk_180 0 122 (dk_at dksX10_go_4 5 rfl rfl)
theorem dX10_go_100 : decode cX10_go 100 = .ok (.aload_n 0, 1) := dk_42 (dk_at dksX10_go_4 8 rfl rfl)
theorem dX10_go_101 : decode cX10_go 101 = .ok (.getfield 119, 3) := dk_180 0 119 (dk_at dksX10_go_4 9 rfl rfl)
theorem dX10_go_104 : decode cX10_go 104 = .ok (.if_icmp .lt 9, 3) := dk_161 0 9 (dk_at dksX10_go_4 12 rfl rfl)
theorem dX10_go_107 : decode cX10_go 107 = .ok (.aload_n 0, 1) := dk_42 (dk_at dksX10_go_4 15 rfl rfl)
theorem dX10_go_108 : decode cX10_go 108 = .ok (.iconst 0, 1) := dk_3 (dk_at dksX10_go_4 16 rfl rfl)
theorem dX10_go_109 : decode cX10_go 109 = .ok (.putfield 131, 3) := dk_181 0 131 (dk_at dksX10_go_4 17 rfl rfl)
theorem dX10_go_112 : decode cX10_go 112 = .ok (.return_, 1) := dk_177 (dk_at dksX10_go_4 20 rfl rfl)
theorem dX10_go_113 : decode cX10_go 113 = .ok (.aload_n 0, 1) := dk_42 (dk_at dksX10_go_4 21 rfl rfl)
theorem dX10_go_114 : decode cX10_go 114 = .ok (.getfield 7, 3) := dk_180 0 7 (dk_at dksX10_go_5 0 rfl rfl)
theorem dX10_go_117 : decode cX10_go 117 = .ok (.aload_n 0, 1) := dk_42 (dk_at dksX10_go_5 3 rfl rfl)
theorem dX10_go_118 : decode cX10_go 118 = .ok (.getfield 122, 3) := dk_180 0 122 (dk_at dksX10_go_5 4 rfl rfl)
theorem dX10_go_121 : decode cX10_go 121 = .ok (.iaload, 1) := dk_46 (dk_at dksX10_go_5 7 rfl rfl)
theorem dX10_go_122 : decode cX10_go 122 = .ok (.istore_n 1, 1) := dk_60 (dk_at dksX10_go_5 8 rfl rfl)
theorem dX10_go_123 : decode cX10_go 123 = .ok (.iload_n 1, 1) := dk_27 (dk_at dksX10_go_5 9 rfl rfl)
theorem dX10_go_124 : decode cX10_go 124 = .ok (.invokestatic 134, 3) := dk_184 0 134 (dk_at dksX10_go_5 10 rfl rfl)
theorem dX10_go_127 : decode cX10_go 127 = .ok (.ifCond .ne 71, 3) := dk_154 0 71 (dk_at dksX10_go_5 13 rfl rfl)
theorem dX10_go_130 : decode cX10_go 130 = .ok (.iload_n 1, 1) := dk_27 (dk_at dksX10_go_5 16 rfl rfl)
theorem dX10_go_131 : decode cX10_go 131 = .ok (.invokestatic 138, 3) := dk_184 0 138 (dk_at dksX10_go_5 17 rfl rfl)
theorem dX10_go_134 : decode cX10_go 134 = .ok (.ifCond .ne 64, 3) := dk_154 0 64 (dk_at dksX10_go_5 20 rfl rfl)
theorem dX10_go_137 : decode cX10_go 137 = .ok (.aload_n 0, 1) := dk_42 (dk_at dksX10_go_5 23 rfl rfl)
theorem dX10_go_138 : decode cX10_go 138 = .ok (.iload_n 1, 1) := dk_27 (dk_at dksX10_go_6 0 rfl rfl)
theorem dX10_go_139 : decode cX10_go 139 = .ok (.bipush 59, 2) := dk_16 59 (dk_at dksX10_go_6 1 rfl rfl)
theorem dX10_go_141 : decode cX10_go 141 = .ok (.if_icmp .eq 33, 3) := dk_159 0 33 (dk_at dksX10_go_6 3 rfl rfl)
theorem dX10_go_144 : decode cX10_go 144 = .ok (.iload_n 1, 1) := dk_27 (dk_at dksX10_go_6 6 rfl rfl)
theorem dX10_go_145 : decode cX10_go 145 = .ok (.bipush 60, 2) := dk_16 60 (dk_at dksX10_go_6 7 rfl rfl)
theorem dX10_go_147 : decode cX10_go 147 = .ok (.if_icmp .eq 27, 3) := dk_159 0 27 (dk_at dksX10_go_6 9 rfl rfl)
theorem dX10_go_150 : decode cX10_go 150 = .ok (.iload_n 1, 1) := dk_27 (dk_at dksX10_go_6 12 rfl rfl)
theorem dX10_go_151 : decode cX10_go 151 = .ok (.bipush 61, 2) := dk_16 61 (dk_at dksX10_go_6 13 rfl rfl)
theorem dX10_go_153 : decode cX10_go 153 = .ok (.if_icmp .eq 21, 3) := dk_159 0 21 (dk_at dksX10_go_6 15 rfl rfl)
theorem dX10_go_156 : decode cX10_go 156 = .ok (.iload_n 1, 1) := dk_27 (dk_at dksX10_go_6 18 rfl rfl)
theorem dX10_go_157 : decode cX10_go 157 = .ok (.bipush 62, 2) := dk_16 62 (dk_at dksX10_go_6 19 rfl rfl)
theorem dX10_go_159 : decode cX10_go 159 = .ok (.if_icmp .eq 15, 3) := dk_159 0 15 (dk_at dksX10_go_6 21 rfl rfl)
theorem dX10_go_162 : decode cX10_go 162 = .ok (.iload_n 1, 1) := dk_27 (dk_at dksX10_go_7 0 rfl rfl)
theorem dX10_go_163 : decode cX10_go 163 = .ok (.bipush 40, 2) := dk_16 40 (dk_at dksX10_go_7 1 rfl rfl)
theorem dX10_go_165 : decode cX10_go 165 = .ok (.if_icmp .eq 9, 3) := dk_159 0 9 (dk_at dksX10_go_7 3 rfl rfl)
theorem dX10_go_168 : decode cX10_go 168 = .ok (.iload_n 1, 1) := dk_27 (dk_at dksX10_go_7 6 rfl rfl)
theorem dX10_go_169 : decode cX10_go 169 = .ok (.bipush 41, 2) := dk_16 41 (dk_at dksX10_go_7 7 rfl rfl)
theorem dX10_go_171 : decode cX10_go 171 = .ok (.if_icmp .ne 7, 3) := dk_160 0 7 (dk_at dksX10_go_7 9 rfl rfl)
theorem dX10_go_174 : decode cX10_go 174 = .ok (.iconst 4, 1) := dk_7 (dk_at dksX10_go_7 12 rfl rfl)
theorem dX10_go_175 : decode cX10_go 175 = .ok (.goto 4, 3) := dk_167 0 4 (dk_at dksX10_go_7 13 rfl rfl)
theorem dX10_go_178 : decode cX10_go 178 = .ok (.iconst 1, 1) := dk_4 (dk_at dksX10_go_7 16 rfl rfl)
theorem dX10_go_179 : decode cX10_go 179 = .ok (.putfield 131, 3) := dk_181 0 131 (dk_at dksX10_go_7 17 rfl rfl)
theorem dX10_go_182 : decode cX10_go 182 = .ok (.aload_n 0, 1) := dk_42 (dk_at dksX10_go_7 20 rfl rfl)
theorem dX10_go_183 : decode cX10_go 183 = .ok (.iload_n 1, 1) := dk_27 (dk_at dksX10_go_7 21 rfl rfl)
theorem dX10_go_184 : decode cX10_go 184 = .ok (.putfield 141, 3) := dk_181 0 141 (dk_at dksX10_go_8 0 rfl rfl)
theorem dX10_go_187 : decode cX10_go 187 = .ok (.aload_n 0, 1) := dk_42 (dk_at dksX10_go_8 3 rfl rfl)
theorem dX10_go_188 : decode cX10_go 188 = .ok (.dup, 1) := dk_89 (dk_at dksX10_go_8 4 rfl rfl)
theorem dX10_go_189 : decode cX10_go 189 = .ok (.getfield 122, 3) := dk_180 0 122 (dk_at dksX10_go_8 5 rfl rfl)
theorem dX10_go_192 : decode cX10_go 192 = .ok (.iconst 1, 1) := dk_4 (dk_at dksX10_go_8 8 rfl rfl)
theorem dX10_go_193 : decode cX10_go 193 = .ok (.iadd, 1) := dk_96 (dk_at dksX10_go_8 9 rfl rfl)
theorem dX10_go_194 : decode cX10_go 194 = .ok (.putfield 122, 3) := dk_181 0 122 (dk_at dksX10_go_8 10 rfl rfl)
theorem dX10_go_197 : decode cX10_go 197 = .ok (.return_, 1) := dk_177 (dk_at dksX10_go_8 13 rfl rfl)
theorem dX10_go_198 : decode cX10_go 198 = .ok (.iload_n 1, 1) := dk_27 (dk_at dksX10_go_8 14 rfl rfl)
theorem dX10_go_199 : decode cX10_go 199 = .ok (.invokestatic 134, 3) := dk_184 0 134 (dk_at dksX10_go_8 15 rfl rfl)
theorem dX10_go_202 : decode cX10_go 202 = .ok (.istore_n 2, 1) := dk_61 (dk_at dksX10_go_8 18 rfl rfl)
theorem dX10_go_203 : decode cX10_go 203 = .ok (.iconst 1, 1) := dk_4 (dk_at dksX10_go_8 19 rfl rfl)
theorem dX10_go_204 : decode cX10_go 204 = .ok (.istore_n 3, 1) := dk_62 (dk_at dksX10_go_8 20 rfl rfl)
theorem dX10_go_205 : decode cX10_go 205 = .ok (.aload_n 0, 1) := dk_42 (dk_at dksX10_go_8 21 rfl rfl)
theorem dX10_go_206 : decode cX10_go 206 = .ok (.lconst 0, 1) := dk_9 (dk_at dksX10_go_8 22 rfl rfl)
theorem dX10_go_207 : decode cX10_go 207 = .ok (.putfield 144, 3) := dk_181 0 144 (dk_at dksX10_go_9 0 rfl rfl)
theorem dX10_go_210 : decode cX10_go 210 = .ok (.aload_n 0, 1) := dk_42 (dk_at dksX10_go_9 3 rfl rfl)
theorem dX10_go_211 : decode cX10_go 211 = .ok (.iconst 0, 1) := dk_3 (dk_at dksX10_go_9 4 rfl rfl)
theorem dX10_go_212 : decode cX10_go 212 = .ok (.putfield 148, 3) := dk_181 0 148 (dk_at dksX10_go_9 5 rfl rfl)
theorem dX10_go_215 : decode cX10_go 215 = .ok (.aload_n 0, 1) := dk_42 (dk_at dksX10_go_9 8 rfl rfl)
theorem dX10_go_216 : decode cX10_go 216 = .ok (.aload_n 0, 1) := dk_42 (dk_at dksX10_go_9 9 rfl rfl)
theorem dX10_go_217 : decode cX10_go 217 = .ok (.getfield 122, 3) := dk_180 0 122 (dk_at dksX10_go_9 10 rfl rfl)
theorem dX10_go_220 : decode cX10_go 220 = .ok (.invokevirtual 151, 3) := dk_182 0 151 (dk_at dksX10_go_9 13 rfl rfl)
theorem dX10_go_223 : decode cX10_go 223 = .ok (.invokestatic 134, 3) := dk_184 0 134 (dk_at dksX10_go_9 16 rfl rfl)
theorem dX10_go_226 : decode cX10_go 226 = .ok (.ifCond .ne 17, 3) := dk_154 0 17 (dk_at dksX10_go_9 19 rfl rfl)
theorem dX10_go_229 : decode cX10_go 229 = .ok (.aload_n 0, 1) := dk_42 (dk_at dksX10_go_9 22 rfl rfl)
theorem dX10_go_230 : decode cX10_go 230 = .ok (.aload_n 0, 1) := dk_42 (dk_at dksX10_go_9 23 rfl rfl)
theorem dX10_go_231 : decode cX10_go 231 = .ok (.getfield 122, 3) := dk_180 0 122 (dk_at dksX10_go_10 0 rfl rfl)
theorem dX10_go_234 : decode cX10_go 234 = .ok (.invokevirtual 151, 3) := dk_182 0 151 (dk_at dksX10_go_10 3 rfl rfl)
theorem dX10_go_237 : decode cX10_go 237 = .ok (.invokestatic 138, 3) := dk_184 0 138 (dk_at dksX10_go_10 6 rfl rfl)
theorem dX10_go_240 : decode cX10_go 240 = .ok (.ifCond .eq 110, 3) := dk_153 0 110 (dk_at dksX10_go_10 9 rfl rfl)
theorem dX10_go_243 : decode cX10_go 243 = .ok (.aload_n 0, 1) := dk_42 (dk_at dksX10_go_10 12 rfl rfl)
theorem dX10_go_244 : decode cX10_go 244 = .ok (.getfield 7, 3) := dk_180 0 7 (dk_at dksX10_go_10 13 rfl rfl)
theorem dX10_go_247 : decode cX10_go 247 = .ok (.aload_n 0, 1) := dk_42 (dk_at dksX10_go_10 16 rfl rfl)
theorem dX10_go_248 : decode cX10_go 248 = .ok (.getfield 122, 3) := dk_180 0 122 (dk_at dksX10_go_10 17 rfl rfl)
theorem dX10_go_251 : decode cX10_go 251 = .ok (.iaload, 1) := dk_46 (dk_at dksX10_go_10 20 rfl rfl)
theorem dX10_go_252 : decode cX10_go 252 = .ok (.istore 4, 2) := dk_54 4 (dk_at dksX10_go_10 21 rfl rfl)
theorem dX10_go_254 : decode cX10_go 254 = .ok (.iload_n 3, 1) := dk_29 (dk_at dksX10_go_10 23 rfl rfl)
theorem dX10_go_255 : decode cX10_go 255 = .ok (.ifCond .eq 16, 3) := dk_153 0 16 (dk_at dksX10_go_11 0 rfl rfl)
theorem dX10_go_258 : decode cX10_go 258 = .ok (.iload 4, 2) := dk_21 4 (dk_at dksX10_go_11 3 rfl rfl)
theorem dX10_go_260 : decode cX10_go 260 = .ok (.invokestatic 134, 3) := dk_184 0 134 (dk_at dksX10_go_11 5 rfl rfl)
theorem dX10_go_263 : decode cX10_go 263 = .ok (.iload_n 2, 1) := dk_28 (dk_at dksX10_go_11 8 rfl rfl)
theorem dX10_go_264 : decode cX10_go 264 = .ok (.if_icmp .ne 7, 3) := dk_160 0 7 (dk_at dksX10_go_11 9 rfl rfl)
theorem dX10_go_267 : decode cX10_go 267 = .ok (.iconst 1, 1) := dk_4 (dk_at dksX10_go_11 12 rfl rfl)
theorem dX10_go_268 : decode cX10_go 268 = .ok (.goto 4, 3) := dk_167 0 4 (dk_at dksX10_go_11 13 rfl rfl)
theorem dX10_go_271 : decode cX10_go 271 = .ok (.iconst 0, 1) := dk_3 (dk_at dksX10_go_11 16 rfl rfl)
theorem dX10_go_272 : decode cX10_go 272 = .ok (.istore_n 3, 1) := dk_62 (dk_at dksX10_go_11 17 rfl rfl)
theorem dX10_go_273 : decode cX10_go 273 = .ok (.aload_n 0, 1) := dk_42 (dk_at dksX10_go_11 18 rfl rfl)
theorem dX10_go_274 : decode cX10_go 274 = .ok (.getfield 122, 3) := dk_180 0 122 (dk_at dksX10_go_11 19 rfl rfl)
theorem dX10_go_277 : decode cX10_go 277 = .ok (.aload_n 0, 1) := dk_42 (dk_at dksX10_go_11 22 rfl rfl)
theorem dX10_go_278 : decode cX10_go 278 = .ok (.getfield 125, 3) := dk_180 0 125 (dk_at dksX10_go_12 0 rfl rfl)
theorem dX10_go_281 : decode cX10_go 281 = .ok (.isub, 1) := dk_100 (dk_at dksX10_go_12 3 rfl rfl)
theorem dX10_go_282 : decode cX10_go 282 = .ok (.bipush 10, 2) := dk_16 10 (dk_at dksX10_go_12 4 rfl rfl)
theorem dX10_go_284 : decode cX10_go 284 = .ok (.if_icmp .ge 23, 3) := dk_162 0 23 (dk_at dksX10_go_12 6 rfl rfl)
theorem dX10_go_287 : decode cX10_go 287 = .ok (.aload_n 0, 1) := dk_42 (dk_at dksX10_go_12 9 rfl rfl)
theorem dX10_go_288 : decode cX10_go 288 = .ok (.ldc2_w 155, 3) := dk_20 0 155 (dk_at dksX10_go_12 10 rfl rfl)
theorem dX10_go_291 : decode cX10_go 291 = .ok (.aload_n 0, 1) := dk_42 (dk_at dksX10_go_12 13 rfl rfl)
theorem dX10_go_292 : decode cX10_go 292 = .ok (.getfield 144, 3) := dk_180 0 144 (dk_at dksX10_go_12 14 rfl rfl)
theorem dX10_go_295 : decode cX10_go 295 = .ok (.lmul, 1) := dk_105 (dk_at dksX10_go_12 17 rfl rfl)
theorem dX10_go_296 : decode cX10_go 296 = .ok (.iload 4, 2) := dk_21 4 (dk_at dksX10_go_12 18 rfl rfl)
theorem dX10_go_298 : decode cX10_go 298 = .ok (.i2l, 1) := dk_133 (dk_at dksX10_go_12 20 rfl rfl)
theorem dX10_go_299 : decode cX10_go 299 = .ok (.ladd, 1) := dk_97 (dk_at dksX10_go_12 21 rfl rfl)
theorem dX10_go_300 : decode cX10_go 300 = .ok (.ldc2_w 157, 3) := dk_20 0 157 (dk_at dksX10_go_13 0 rfl rfl)
theorem dX10_go_303 : decode cX10_go 303 = .ok (.lsub, 1) := dk_101 (dk_at dksX10_go_13 3 rfl rfl)
theorem dX10_go_304 : decode cX10_go 304 = .ok (.putfield 144, 3) := dk_181 0 144 (dk_at dksX10_go_13 4 rfl rfl)
theorem dX10_go_307 : decode cX10_go 307 = .ok (.aload_n 0, 1) := dk_42 (dk_at dksX10_go_13 7 rfl rfl)
theorem dX10_go_308 : decode cX10_go 308 = .ok (.getfield 122, 3) := dk_180 0 122 (dk_at dksX10_go_13 8 rfl rfl)
theorem dX10_go_311 : decode cX10_go 311 = .ok (.aload_n 0, 1) := dk_42 (dk_at dksX10_go_13 11 rfl rfl)
theorem dX10_go_312 : decode cX10_go 312 = .ok (.getfield 125, 3) := dk_180 0 125 (dk_at dksX10_go_13 12 rfl rfl)
theorem dX10_go_315 : decode cX10_go 315 = .ok (.isub, 1) := dk_100 (dk_at dksX10_go_13 15 rfl rfl)
theorem dX10_go_316 : decode cX10_go 316 = .ok (.iconst 2, 1) := dk_5 (dk_at dksX10_go_13 16 rfl rfl)
theorem dX10_go_317 : decode cX10_go 317 = .ok (.if_icmp .ge 20, 3) := dk_162 0 20 (dk_at dksX10_go_13 17 rfl rfl)
theorem dX10_go_320 : decode cX10_go 320 = .ok (.aload_n 0, 1) := dk_42 (dk_at dksX10_go_13 20 rfl rfl)
theorem dX10_go_321 : decode cX10_go 321 = .ok (.bipush 10, 2) := dk_16 10 (dk_at dksX10_go_13 21 rfl rfl)
theorem dX10_go_323 : decode cX10_go 323 = .ok (.aload_n 0, 1) := dk_42 (dk_at dksX10_go_13 23 rfl rfl)
theorem dX10_go_324 : decode cX10_go 324 = .ok (.getfield 148, 3) := dk_180 0 148 (dk_at dksX10_go_14 0 rfl rfl)
theorem dX10_go_327 : decode cX10_go 327 = .ok (.imul, 1) := dk_104 (dk_at dksX10_go_14 3 rfl rfl)
theorem dX10_go_328 : decode cX10_go 328 = .ok (.iload 4, 2) := dk_21 4 (dk_at dksX10_go_14 4 rfl rfl)
theorem dX10_go_330 : decode cX10_go 330 = .ok (.iadd, 1) := dk_96 (dk_at dksX10_go_14 6 rfl rfl)
theorem dX10_go_331 : decode cX10_go 331 = .ok (.bipush 48, 2) := dk_16 48 (dk_at dksX10_go_14 7 rfl rfl)
theorem dX10_go_333 : decode cX10_go 333 = .ok (.isub, 1) := dk_100 (dk_at dksX10_go_14 9 rfl rfl)
theorem dX10_go_334 : decode cX10_go 334 = .ok (.putfield 148, 3) := dk_181 0 148 (dk_at dksX10_go_14 10 rfl rfl)
theorem dX10_go_337 : decode cX10_go 337 = .ok (.aload_n 0, 1) := dk_42 (dk_at dksX10_go_14 13 rfl rfl)
theorem dX10_go_338 : decode cX10_go 338 = .ok (.dup, 1) := dk_89 (dk_at dksX10_go_14 14 rfl rfl)
theorem dX10_go_339 : decode cX10_go 339 = .ok (.getfield 122, 3) := dk_180 0 122 (dk_at dksX10_go_14 15 rfl rfl)
theorem dX10_go_342 : decode cX10_go 342 = .ok (.iconst 1, 1) := dk_4 (dk_at dksX10_go_14 18 rfl rfl)
theorem dX10_go_343 : decode cX10_go 343 = .ok (.iadd, 1) := dk_96 (dk_at dksX10_go_14 19 rfl rfl)
theorem dX10_go_344 : decode cX10_go 344 = .ok (.putfield 122, 3) := dk_181 0 122 (dk_at dksX10_go_14 20 rfl rfl)
theorem dX10_go_347 : decode cX10_go 347 = .ok (.goto (-132), 3) := dk_167 255 124 (dk_at dksX10_go_15 0 rfl rfl)
theorem dX10_go_350 : decode cX10_go 350 = .ok (.aload_n 0, 1) := dk_42 (dk_at dksX10_go_15 3 rfl rfl)
theorem dX10_go_351 : decode cX10_go 351 = .ok (.iload_n 3, 1) := dk_29 (dk_at dksX10_go_15 4 rfl rfl)
theorem dX10_go_352 : decode cX10_go 352 = .ok (.ifCond .eq 25, 3) := dk_153 0 25 (dk_at dksX10_go_15 5 rfl rfl)
theorem dX10_go_355 : decode cX10_go 355 = .ok (.aload_n 0, 1) := dk_42 (dk_at dksX10_go_15 8 rfl rfl)
theorem dX10_go_356 : decode cX10_go 356 = .ok (.getfield 122, 3) := dk_180 0 122 (dk_at dksX10_go_15 9 rfl rfl)
theorem dX10_go_359 : decode cX10_go 359 = .ok (.aload_n 0, 1) := dk_42 (dk_at dksX10_go_15 12 rfl rfl)
theorem dX10_go_360 : decode cX10_go 360 = .ok (.getfield 125, 3) := dk_180 0 125 (dk_at dksX10_go_15 13 rfl rfl)
theorem dX10_go_363 : decode cX10_go 363 = .ok (.isub, 1) := dk_100 (dk_at dksX10_go_15 16 rfl rfl)
theorem dX10_go_364 : decode cX10_go 364 = .ok (.iload_n 2, 1) := dk_28 (dk_at dksX10_go_15 17 rfl rfl)
theorem dX10_go_365 : decode cX10_go 365 = .ok (.ifCond .eq 8, 3) := dk_153 0 8 (dk_at dksX10_go_15 18 rfl rfl)
theorem dX10_go_368 : decode cX10_go 368 = .ok (.bipush 10, 2) := dk_16 10 (dk_at dksX10_go_15 21 rfl rfl)
theorem dX10_go_370 : decode cX10_go 370 = .ok (.goto 4, 3) := dk_167 0 4 (dk_at dksX10_go_16 0 rfl rfl)
theorem dX10_go_373 : decode cX10_go 373 = .ok (.iconst 2, 1) := dk_5 (dk_at dksX10_go_16 3 rfl rfl)
theorem dX10_go_374 : decode cX10_go 374 = .ok (.if_icmp .le 7, 3) := dk_164 0 7 (dk_at dksX10_go_16 4 rfl rfl)
theorem dX10_go_377 : decode cX10_go 377 = .ok (.iconst 1, 1) := dk_4 (dk_at dksX10_go_16 7 rfl rfl)
theorem dX10_go_378 : decode cX10_go 378 = .ok (.goto 12, 3) := dk_167 0 12 (dk_at dksX10_go_16 8 rfl rfl)
theorem dX10_go_381 : decode cX10_go 381 = .ok (.iload_n 2, 1) := dk_28 (dk_at dksX10_go_16 11 rfl rfl)
theorem dX10_go_382 : decode cX10_go 382 = .ok (.ifCond .eq 7, 3) := dk_153 0 7 (dk_at dksX10_go_16 12 rfl rfl)
theorem dX10_go_385 : decode cX10_go 385 = .ok (.iconst 2, 1) := dk_5 (dk_at dksX10_go_16 15 rfl rfl)
theorem dX10_go_386 : decode cX10_go 386 = .ok (.goto 4, 3) := dk_167 0 4 (dk_at dksX10_go_16 16 rfl rfl)
theorem dX10_go_389 : decode cX10_go 389 = .ok (.iconst 3, 1) := dk_6 (dk_at dksX10_go_16 19 rfl rfl)
theorem dX10_go_390 : decode cX10_go 390 = .ok (.putfield 131, 3) := dk_181 0 131 (dk_at dksX10_go_16 20 rfl rfl)
theorem dX10_go_393 : decode cX10_go 393 = .ok (.return_, 1) := dk_177 (dk_at dksX10_go_16 23 rfl rfl)
theorem fl_X10_122 : gFl "BitingDoorsModel" 122 [8] 5 := by
  intro args s hts hN ci hc
  simp only [List.mem_cons, List.not_mem_nil, or_false] at hc
  subst hc
  exact ⟨RX10, TX10, 64, "BitingDoorsModel", gCl_X10, in_X10, by decide, Or.inl (hts _ q1655), fun _ h => h⟩
theorem fl_X10_128 : gFl "BitingDoorsModel" 128 [8] 4 := by
  intro args s hts hN ci hc
  simp only [List.mem_cons, List.not_mem_nil, or_false] at hc
  subst hc
  exact ⟨RX10, TX10, 64, "BitingDoorsModel", gCl_X10, in_X10, by decide, Or.inl (hts _ q1654), fun _ h => h⟩
theorem fl_X10_148 : gFl "BitingDoorsModel" 148 [8] 8 := by
  intro args s hts hN ci hc
  simp only [List.mem_cons, List.not_mem_nil, or_false] at hc
  subst hc
  exact ⟨RX10, TX10, 64, "BitingDoorsModel", gCl_X10, in_X10, by decide, Or.inl (hts _ q1658), fun _ h => h⟩
theorem fp_X10_122 {nm : String} : gFp "BitingDoorsModel" nm 122 [8] 5 .int := by
  intro args s hts hN ci hc
  simp only [List.mem_cons, List.not_mem_nil, or_false] at hc
  subst hc
  exact ⟨RX10, TX10, 64, "BitingDoorsModel", gCl_X10, in_X10, by decide, Or.inl ⟨rfl, Or.inl (hts _ q1655)⟩, fun _ h => h, rfl, fun D tys hK => gap_X10 hts hK⟩
theorem fp_X10_125 {nm : String} : gFp "BitingDoorsModel" nm 125 [8] 6 .int := by
  intro args s hts hN ci hc
  simp only [List.mem_cons, List.not_mem_nil, or_false] at hc
  subst hc
  exact ⟨RX10, TX10, 64, "BitingDoorsModel", gCl_X10, in_X10, by decide, Or.inl ⟨rfl, Or.inl (hts _ q1656)⟩, fun _ h => h, rfl, fun D tys hK => gap_X10 hts hK⟩
theorem fp_X10_131 {nm : String} : gFp "BitingDoorsModel" nm 131 [8] 7 .int := by
  intro args s hts hN ci hc
  simp only [List.mem_cons, List.not_mem_nil, or_false] at hc
  subst hc
  exact ⟨RX10, TX10, 64, "BitingDoorsModel", gCl_X10, in_X10, by decide, Or.inl ⟨rfl, Or.inl (hts _ q1657)⟩, fun _ h => h, rfl, fun D tys hK => gap_X10 hts hK⟩
theorem fp_X10_141 {nm : String} : gFp "BitingDoorsModel" nm 141 [8] 9 .int := by
  intro args s hts hN ci hc
  simp only [List.mem_cons, List.not_mem_nil, or_false] at hc
  subst hc
  exact ⟨RX10, TX10, 64, "BitingDoorsModel", gCl_X10, in_X10, by decide, Or.inl ⟨rfl, Or.inl (hts _ q1659)⟩, fun _ h => h, rfl, fun D tys hK => gap_X10 hts hK⟩
theorem fp_X10_144 {nm : String} : gFp "BitingDoorsModel" nm 144 [8] 12 .long := by
  intro args s hts hN ci hc
  simp only [List.mem_cons, List.not_mem_nil, or_false] at hc
  subst hc
  exact ⟨RX10, TX10, 64, "BitingDoorsModel", gCl_X10, in_X10, by decide, Or.inl ⟨rfl, Or.inl (hts _ q1662)⟩, fun _ h => h, rfl, fun D tys hK => gap_X10 hts hK⟩
theorem fp_X10_148 {nm : String} : gFp "BitingDoorsModel" nm 148 [8] 8 .int := by
  intro args s hts hN ci hc
  simp only [List.mem_cons, List.not_mem_nil, or_false] at hc
  subst hc
  exact ⟨RX10, TX10, 64, "BitingDoorsModel", gCl_X10, in_X10, by decide, Or.inl ⟨rfl, Or.inl (hts _ q1658)⟩, fun _ h => h, rfl, fun D tys hK => gap_X10 hts hK⟩
theorem dn_X10_go : yX10_go.cls ≠ "java/lang/invoke/MethodHandle" ∧ yX10_go.cls ≠ "java/lang/invoke/VarHandle" ∧ (parseMethodDescriptor yX10_go.desc).map (fun d => d.parameters.length) = some 0 := by decide +kernel
noncomputable def M_X10_go  : TM Unit := TM.bind (TM.loop (S := Unit) (E := Unit) (fun s1 => TM.bind (tI 5) (fun v5 => TM.bind (tI 3) (fun v6 => if v6 ≤ v5 then TM.pure (Sum.inr ()) else TM.bind (tI 5) (fun v7 => TM.bind (tA 1 940 v7) (fun v8 => if v8 = 32 then TM.bind (tI 5) (fun v9 => TM.bind (sI 5 (v9 + 1)) (fun _ => TM.pure (Sum.inl ()))) else TM.bind (tI 5) (fun v10 => TM.bind (tA 1 940 v10) (fun v11 => if v11 = 10 then TM.bind (tI 5) (fun v12 => TM.bind (sI 5 (v12 + 1)) (fun _ => TM.pure (Sum.inl ()))) else TM.pure (Sum.inr ())))))))) ()) (fun e4 => TM.bind (tI 5) (fun v13 => TM.bind (sI 6 v13) (fun _ => TM.bind (tI 3) (fun v14 => TM.bind (tI 4) (fun v15 => if v14 ≤ v15 then TM.bind (tI 5) (fun v16 => TM.bind (tI 3) (fun v17 => if v16 < v17 then TM.bind (tI 5) (fun v18 => TM.bind (tA 1 940 v18) (fun v19 => TM.bind (M_X10_isLetter v19) (fun v20 => cond v20 (TM.bind (M_X10_isLetter v19) (fun v21 => TM.bind (sL 12 0) (fun _ => TM.bind (sI 8 0) (fun _ => TM.bind (TM.loop (S := Bool) (E := Bool) (fun s22 => TM.bind (tI 5) (fun v26 => TM.bind (M_X10_byteAt v26) (fun v27 => TM.bind (M_X10_isLetter v27) (fun v28 => cond v28 (TM.bind (tI 5) (fun v29 => TM.bind (tA 1 940 v29) (fun v30 => TM.bind ((cond s22 (TM.bind (M_X10_isLetter v30) (fun v41 => if (b2i v41) = (b2i v21) then TM.pure true else TM.pure false)) (TM.pure false) : TM (Bool))) (fun u31 => TM.bind (tI 5) (fun v32 => TM.bind (tI 6) (fun v33 => TM.bind ((if 10 ≤ (v32 - v33) then TM.pure () else TM.bind (tL 12) (fun v40 => TM.bind (sL 12 (((27 * v40) + v30.toInt64) - 96)) (fun _ => TM.pure ())) : TM (Unit))) (fun u34 => TM.bind (tI 5) (fun v35 => TM.bind (tI 6) (fun v36 => TM.bind ((if 2 ≤ (v35 - v36) then TM.pure () else TM.bind (tI 8) (fun v39 => TM.bind (sI 8 (((10 * v39) + v30) - 48)) (fun _ => TM.pure ())) : TM (Unit))) (fun u37 => TM.bind (tI 5) (fun v38 => TM.bind (sI 5 (v38 + 1)) (fun _ => TM.pure (Sum.inl u31))))))))))))) (TM.bind (tI 5) (fun v42 => TM.bind (M_X10_byteAt v42) (fun v43 => TM.bind (M_X10_isDigit v43) (fun v44 => cond v44 (TM.bind (tI 5) (fun v45 => TM.bind (tA 1 940 v45) (fun v46 => TM.bind ((cond s22 (TM.bind (M_X10_isLetter v46) (fun v57 => if (b2i v57) = (b2i v21) then TM.pure true else TM.pure false)) (TM.pure false) : TM (Bool))) (fun u47 => TM.bind (tI 5) (fun v48 => TM.bind (tI 6) (fun v49 => TM.bind ((if 10 ≤ (v48 - v49) then TM.pure () else TM.bind (tL 12) (fun v56 => TM.bind (sL 12 (((27 * v56) + v46.toInt64) - 96)) (fun _ => TM.pure ())) : TM (Unit))) (fun u50 => TM.bind (tI 5) (fun v51 => TM.bind (tI 6) (fun v52 => TM.bind ((if 2 ≤ (v51 - v52) then TM.pure () else TM.bind (tI 8) (fun v55 => TM.bind (sI 8 (((10 * v55) + v46) - 48)) (fun _ => TM.pure ())) : TM (Unit))) (fun u53 => TM.bind (tI 5) (fun v54 => TM.bind (sI 5 (v54 + 1)) (fun _ => TM.pure (Sum.inl u47))))))))))))) (TM.pure (Sum.inr s22)))))))))) true) (fun e25 => TM.bind ((cond e25 (TM.bind (tI 5) (fun v59 => TM.bind (tI 6) (fun v60 => TM.bind ((cond v21 (TM.pure 10) (TM.pure 2) : TM (Int32))) (fun u61 => if (v59 - v60) ≤ u61 then cond v21 (TM.pure 2) (TM.pure 3) else TM.pure 1)))) (TM.pure 1) : TM (Int32))) (fun u58 => TM.bind (sI 7 u58) (fun _ => TM.pure ()))))))) (TM.bind (M_X10_isDigit v19) (fun v62 => cond v62 (TM.bind (M_X10_isLetter v19) (fun v63 => TM.bind (sL 12 0) (fun _ => TM.bind (sI 8 0) (fun _ => TM.bind (TM.loop (S := Bool) (E := Bool) (fun s64 => TM.bind (tI 5) (fun v68 => TM.bind (M_X10_byteAt v68) (fun v69 => TM.bind (M_X10_isLetter v69) (fun v70 => cond v70 (TM.bind (tI 5) (fun v71 => TM.bind (tA 1 940 v71) (fun v72 => TM.bind ((cond s64 (TM.bind (M_X10_isLetter v72) (fun v83 => if (b2i v83) = (b2i v63) then TM.pure true else TM.pure false)) (TM.pure false) : TM (Bool))) (fun u73 => TM.bind (tI 5) (fun v74 => TM.bind (tI 6) (fun v75 => TM.bind ((if 10 ≤ (v74 - v75) then TM.pure () else TM.bind (tL 12) (fun v82 => TM.bind (sL 12 (((27 * v82) + v72.toInt64) - 96)) (fun _ => TM.pure ())) : TM (Unit))) (fun u76 => TM.bind (tI 5) (fun v77 => TM.bind (tI 6) (fun v78 => TM.bind ((if 2 ≤ (v77 - v78) then TM.pure () else TM.bind (tI 8) (fun v81 => TM.bind (sI 8 (((10 * v81) + v72) - 48)) (fun _ => TM.pure ())) : TM (Unit))) (fun u79 => TM.bind (tI 5) (fun v80 => TM.bind (sI 5 (v80 + 1)) (fun _ => TM.pure (Sum.inl u73))))))))))))) (TM.bind (tI 5) (fun v84 => TM.bind (M_X10_byteAt v84) (fun v85 => TM.bind (M_X10_isDigit v85) (fun v86 => cond v86 (TM.bind (tI 5) (fun v87 => TM.bind (tA 1 940 v87) (fun v88 => TM.bind ((cond s64 (TM.bind (M_X10_isLetter v88) (fun v99 => if (b2i v99) = (b2i v63) then TM.pure true else TM.pure false)) (TM.pure false) : TM (Bool))) (fun u89 => TM.bind (tI 5) (fun v90 => TM.bind (tI 6) (fun v91 => TM.bind ((if 10 ≤ (v90 - v91) then TM.pure () else TM.bind (tL 12) (fun v98 => TM.bind (sL 12 (((27 * v98) + v88.toInt64) - 96)) (fun _ => TM.pure ())) : TM (Unit))) (fun u92 => TM.bind (tI 5) (fun v93 => TM.bind (tI 6) (fun v94 => TM.bind ((if 2 ≤ (v93 - v94) then TM.pure () else TM.bind (tI 8) (fun v97 => TM.bind (sI 8 (((10 * v97) + v88) - 48)) (fun _ => TM.pure ())) : TM (Unit))) (fun u95 => TM.bind (tI 5) (fun v96 => TM.bind (sI 5 (v96 + 1)) (fun _ => TM.pure (Sum.inl u89))))))))))))) (TM.pure (Sum.inr s64)))))))))) true) (fun e67 => TM.bind ((cond e67 (TM.bind (tI 5) (fun v101 => TM.bind (tI 6) (fun v102 => TM.bind ((cond v63 (TM.pure 10) (TM.pure 2) : TM (Int32))) (fun u103 => if (v101 - v102) ≤ u103 then cond v63 (TM.pure 2) (TM.pure 3) else TM.pure 1)))) (TM.pure 1) : TM (Int32))) (fun u100 => TM.bind (sI 7 u100) (fun _ => TM.pure ()))))))) (TM.bind ((if v19 = 59 then TM.pure 4 else if v19 = 60 then TM.pure 4 else if v19 = 61 then TM.pure 4 else if v19 = 62 then TM.pure 4 else if v19 = 40 then TM.pure 4 else if v19 = 41 then TM.pure 4 else TM.pure 1 : TM (Int32))) (fun u104 => TM.bind (sI 7 u104) (fun _ => TM.bind (sI 9 v19) (fun _ => TM.bind (tI 5) (fun v105 => TM.bind (sI 5 (v105 + 1)) (fun _ => TM.pure ()))))))))))) else TM.bind (sI 7 0) (fun _ => TM.pure ()))) else TM.bind (tI 6) (fun v106 => TM.bind (tI 4) (fun v107 => if v106 < v107 then TM.bind (tI 5) (fun v108 => TM.bind (tI 3) (fun v109 => if v108 < v109 then TM.bind (tI 5) (fun v110 => TM.bind (tA 1 940 v110) (fun v111 => TM.bind (M_X10_isLetter v111) (fun v112 => cond v112 (TM.bind (M_X10_isLetter v111) (fun v113 => TM.bind (sL 12 0) (fun _ => TM.bind (sI 8 0) (fun _ => TM.bind (TM.loop (S := Bool) (E := Bool) (fun s114 => TM.bind (tI 5) (fun v118 => TM.bind (M_X10_byteAt v118) (fun v119 => TM.bind (M_X10_isLetter v119) (fun v120 => cond v120 (TM.bind (tI 5) (fun v121 => TM.bind (tA 1 940 v121) (fun v122 => TM.bind ((cond s114 (TM.bind (M_X10_isLetter v122) (fun v133 => if (b2i v133) = (b2i v113) then TM.pure true else TM.pure false)) (TM.pure false) : TM (Bool))) (fun u123 => TM.bind (tI 5) (fun v124 => TM.bind (tI 6) (fun v125 => TM.bind ((if 10 ≤ (v124 - v125) then TM.pure () else TM.bind (tL 12) (fun v132 => TM.bind (sL 12 (((27 * v132) + v122.toInt64) - 96)) (fun _ => TM.pure ())) : TM (Unit))) (fun u126 => TM.bind (tI 5) (fun v127 => TM.bind (tI 6) (fun v128 => TM.bind ((if 2 ≤ (v127 - v128) then TM.pure () else TM.bind (tI 8) (fun v131 => TM.bind (sI 8 (((10 * v131) + v122) - 48)) (fun _ => TM.pure ())) : TM (Unit))) (fun u129 => TM.bind (tI 5) (fun v130 => TM.bind (sI 5 (v130 + 1)) (fun _ => TM.pure (Sum.inl u123))))))))))))) (TM.bind (tI 5) (fun v134 => TM.bind (M_X10_byteAt v134) (fun v135 => TM.bind (M_X10_isDigit v135) (fun v136 => cond v136 (TM.bind (tI 5) (fun v137 => TM.bind (tA 1 940 v137) (fun v138 => TM.bind ((cond s114 (TM.bind (M_X10_isLetter v138) (fun v149 => if (b2i v149) = (b2i v113) then TM.pure true else TM.pure false)) (TM.pure false) : TM (Bool))) (fun u139 => TM.bind (tI 5) (fun v140 => TM.bind (tI 6) (fun v141 => TM.bind ((if 10 ≤ (v140 - v141) then TM.pure () else TM.bind (tL 12) (fun v148 => TM.bind (sL 12 (((27 * v148) + v138.toInt64) - 96)) (fun _ => TM.pure ())) : TM (Unit))) (fun u142 => TM.bind (tI 5) (fun v143 => TM.bind (tI 6) (fun v144 => TM.bind ((if 2 ≤ (v143 - v144) then TM.pure () else TM.bind (tI 8) (fun v147 => TM.bind (sI 8 (((10 * v147) + v138) - 48)) (fun _ => TM.pure ())) : TM (Unit))) (fun u145 => TM.bind (tI 5) (fun v146 => TM.bind (sI 5 (v146 + 1)) (fun _ => TM.pure (Sum.inl u139))))))))))))) (TM.pure (Sum.inr s114)))))))))) true) (fun e117 => TM.bind ((cond e117 (TM.bind (tI 5) (fun v151 => TM.bind (tI 6) (fun v152 => TM.bind ((cond v113 (TM.pure 10) (TM.pure 2) : TM (Int32))) (fun u153 => if (v151 - v152) ≤ u153 then cond v113 (TM.pure 2) (TM.pure 3) else TM.pure 1)))) (TM.pure 1) : TM (Int32))) (fun u150 => TM.bind (sI 7 u150) (fun _ => TM.pure ()))))))) (TM.bind (M_X10_isDigit v111) (fun v154 => cond v154 (TM.bind (M_X10_isLetter v111) (fun v155 => TM.bind (sL 12 0) (fun _ => TM.bind (sI 8 0) (fun _ => TM.bind (TM.loop (S := Bool) (E := Bool) (fun s156 => TM.bind (tI 5) (fun v160 => TM.bind (M_X10_byteAt v160) (fun v161 => TM.bind (M_X10_isLetter v161) (fun v162 => cond v162 (TM.bind (tI 5) (fun v163 => TM.bind (tA 1 940 v163) (fun v164 => TM.bind ((cond s156 (TM.bind (M_X10_isLetter v164) (fun v175 => if (b2i v175) = (b2i v155) then TM.pure true else TM.pure false)) (TM.pure false) : TM (Bool))) (fun u165 => TM.bind (tI 5) (fun v166 => TM.bind (tI 6) (fun v167 => TM.bind ((if 10 ≤ (v166 - v167) then TM.pure () else TM.bind (tL 12) (fun v174 => TM.bind (sL 12 (((27 * v174) + v164.toInt64) - 96)) (fun _ => TM.pure ())) : TM (Unit))) (fun u168 => TM.bind (tI 5) (fun v169 => TM.bind (tI 6) (fun v170 => TM.bind ((if 2 ≤ (v169 - v170) then TM.pure () else TM.bind (tI 8) (fun v173 => TM.bind (sI 8 (((10 * v173) + v164) - 48)) (fun _ => TM.pure ())) : TM (Unit))) (fun u171 => TM.bind (tI 5) (fun v172 => TM.bind (sI 5 (v172 + 1)) (fun _ => TM.pure (Sum.inl u165))))))))))))) (TM.bind (tI 5) (fun v176 => TM.bind (M_X10_byteAt v176) (fun v177 => TM.bind (M_X10_isDigit v177) (fun v178 => cond v178 (TM.bind (tI 5) (fun v179 => TM.bind (tA 1 940 v179) (fun v180 => TM.bind ((cond s156 (TM.bind (M_X10_isLetter v180) (fun v191 => if (b2i v191) = (b2i v155) then TM.pure true else TM.pure false)) (TM.pure false) : TM (Bool))) (fun u181 => TM.bind (tI 5) (fun v182 => TM.bind (tI 6) (fun v183 => TM.bind ((if 10 ≤ (v182 - v183) then TM.pure () else TM.bind (tL 12) (fun v190 => TM.bind (sL 12 (((27 * v190) + v180.toInt64) - 96)) (fun _ => TM.pure ())) : TM (Unit))) (fun u184 => TM.bind (tI 5) (fun v185 => TM.bind (tI 6) (fun v186 => TM.bind ((if 2 ≤ (v185 - v186) then TM.pure () else TM.bind (tI 8) (fun v189 => TM.bind (sI 8 (((10 * v189) + v180) - 48)) (fun _ => TM.pure ())) : TM (Unit))) (fun u187 => TM.bind (tI 5) (fun v188 => TM.bind (sI 5 (v188 + 1)) (fun _ => TM.pure (Sum.inl u181))))))))))))) (TM.pure (Sum.inr s156)))))))))) true) (fun e159 => TM.bind ((cond e159 (TM.bind (tI 5) (fun v193 => TM.bind (tI 6) (fun v194 => TM.bind ((cond v155 (TM.pure 10) (TM.pure 2) : TM (Int32))) (fun u195 => if (v193 - v194) ≤ u195 then cond v155 (TM.pure 2) (TM.pure 3) else TM.pure 1)))) (TM.pure 1) : TM (Int32))) (fun u192 => TM.bind (sI 7 u192) (fun _ => TM.pure ()))))))) (TM.bind ((if v111 = 59 then TM.pure 4 else if v111 = 60 then TM.pure 4 else if v111 = 61 then TM.pure 4 else if v111 = 62 then TM.pure 4 else if v111 = 40 then TM.pure 4 else if v111 = 41 then TM.pure 4 else TM.pure 1 : TM (Int32))) (fun u196 => TM.bind (sI 7 u196) (fun _ => TM.bind (sI 9 v111) (fun _ => TM.bind (tI 5) (fun v197 => TM.bind (sI 5 (v197 + 1)) (fun _ => TM.pure ()))))))))))) else TM.bind (sI 7 0) (fun _ => TM.pure ()))) else TM.bind (tI 4) (fun v198 => TM.bind (sI 6 v198) (fun _ => TM.bind (sI 7 1) (fun _ => TM.pure ()))))))))))
set_option maxHeartbeats 4000000 in
theorem ct_X10_go (G : gG) (am : Nat)  : gCtM G am yX10_go cX10_go 5 none 1 21 [.ref am] (M_X10_go) (fun _ : Unit => none) := by
  refine gCtM.of (by decide) (Nat.le_of_ble_eq_true rfl) (fun K hn ms ms' r hG X hK hd ho => ?_)
  subst hG
  have X : gX K cX10_go 5 "BitingDoorsModel" "go" none 1 21 := X
  show V K 5 (mkM am hn ms) 0 [(0, .ref am)] []
  unfold M_X10_go at hd
  obtain ⟨e4, m1, hd, hd2⟩ := TM.bind_some hd
  have KX : V K 5 (mkM am hn m1) 52 [(0, .ref am)] [] := by
    clear hd
    have hd := hd2
    refine v_aload_n X dX10_go_52 0 0 rfl rfl ?_
    refine v_aload_n X dX10_go_53 0 0 rfl rfl ?_
    refine t_getI X hd rfl fl_X10_122 dX10_go_54 (fun v13 hd => ?_)
    refine t_putI X hd rfl fp_X10_125 dX10_go_57 (fun ms hd => ?_)
    refine v_aload_n X dX10_go_60 0 0 rfl rfl ?_
    refine t_getI X hd rfl fl_X10_119 dX10_go_61 (fun v14 hd => ?_)
    refine v_aload_n X dX10_go_64 0 0 rfl rfl ?_
    refine t_getI X hd rfl fl_X10_128 dX10_go_65 (fun v15 hd => ?_)
    refine v_icmp_le (tgt := 96) X dX10_go_68 (by decide) (fun q => ?_) (fun q => ?_)
    · have hd := Tite_t q hd
      refine v_aload_n X dX10_go_96 0 0 rfl rfl ?_
      refine t_getI X hd rfl fl_X10_122 dX10_go_97 (fun v16 hd => ?_)
      refine v_aload_n X dX10_go_100 0 0 rfl rfl ?_
      refine t_getI X hd rfl fl_X10_119 dX10_go_101 (fun v17 hd => ?_)
      refine v_icmp_lt (tgt := 113) X dX10_go_104 (by decide) (fun q => ?_) (fun q => ?_)
      · have hd := Tite_t q hd
        refine v_aload_n X dX10_go_113 0 0 rfl rfl ?_
        refine t_getA (j := 0) X rfl fl_X10_7 dX10_go_114 ?_
        refine v_aload_n X dX10_go_117 0 0 rfl rfl ?_
        refine t_getI X hd rfl fl_X10_122 dX10_go_118 (fun v18 hd => ?_)
        refine t_iald (j := 0) X hd rfl dX10_go_121 (fun v19 hd => ?_)
        refine v_istore_n (lv2 := [(1, .int v19), (0, .ref am)]) X dX10_go_122 1 rfl (by decide) rfl ?_
        refine v_iload_n X dX10_go_123 0 1 rfl rfl ?_
        refine t_callS X hK hd (ct_X10_isLetter _ am v19) (lw_S q1880 q1881 q120 q1882) dn_X10_isLetter rfl ⟨by decide, by decide⟩ rfl (Nat.le_of_ble_eq_true rfl) dX10_go_124 (fun v20 ms hd => ?_)
        show V K 5 (mkM am hn ms) 127 [(1, .int v19), (0, .ref am)] [.int (b2i v20)]
        refine v_ifZ_ne (tgt := 198) X dX10_go_127 (by decide) (fun q => ?_) (fun q => ?_)
        · have hd := Tcnd_t q hd
          refine v_iload_n X dX10_go_198 0 1 rfl rfl ?_
          refine t_callS X hK hd (ct_X10_isLetter _ am v19) (lw_S q1880 q1881 q120 q1882) dn_X10_isLetter rfl ⟨by decide, by decide⟩ rfl (Nat.le_of_ble_eq_true rfl) dX10_go_199 (fun v21 ms hd => ?_)
          show V K 5 (mkM am hn ms) 202 [(1, .int v19), (0, .ref am)] [.int (b2i v21)]
          refine v_istore_n (lv2 := [(2, .int (b2i v21)), (1, .int v19), (0, .ref am)]) X dX10_go_202 2 rfl (by decide) rfl ?_
          refine v_iconst (v := 1) X dX10_go_203 (by decide) ?_
          refine v_istore_n (lv2 := [(3, .int 1), (2, .int (b2i v21)), (1, .int v19), (0, .ref am)]) X dX10_go_204 3 rfl (by decide) rfl ?_
          refine v_aload_n X dX10_go_205 3 0 rfl rfl ?_
          refine v_lconst (v := 0) X dX10_go_206 (by decide) ?_
          refine t_putL X hd rfl fp_X10_144 dX10_go_207 (fun ms hd => ?_)
          refine v_aload_n X dX10_go_210 3 0 rfl rfl ?_
          refine v_iconst (v := 0) X dX10_go_211 (by decide) ?_
          refine t_putI X hd rfl fp_X10_148 dX10_go_212 (fun ms hd => ?_)
          obtain ⟨e25, m1, hd, hd2⟩ := TM.bind_some hd
          have KX : V K 5 (mkM am hn m1) 350 [(0, .ref am), (2, .int (b2i v21)), (3, .int (b2i e25))] [] := by
            clear hd
            have hd := hd2
            refine v_aload_n X dX10_go_350 0 0 rfl rfl ?_
            refine v_iload_n X dX10_go_351 2 3 rfl rfl ?_
            obtain ⟨u58, m1, hd, hd2⟩ := TM.bind_some hd
            have KJ : V K 5 (mkM am hn m1) 390 [] [.int u58, .ref am] := by
              clear hd
              have hd := hd2
              refine t_putI X hd rfl fp_X10_131 dX10_go_390 (fun ms hd => ?_)
              exact t_vret X hK hd ho dX10_go_393
            clear hd2
            refine v_ifZ_eq (tgt := 377) X dX10_go_352 (by decide) (fun q => ?_) (fun q => ?_)
            · have hd := Tcnd_f q hd
              refine v_iconst (v := 1) X dX10_go_377 (by decide) ?_
              refine v_goto (tgt := 390) X dX10_go_378 (by decide) ?_
              exact v_loc [] rfl (t_at (P := fun (u58 : Int32) m => V K 5 (mkM am hn m) 390 [] [.int u58, .ref am]) hd KJ)
            · have hd := Tcnd_t q hd
              refine v_aload_n X dX10_go_355 0 0 rfl rfl ?_
              refine t_getI X hd rfl fl_X10_122 dX10_go_356 (fun v59 hd => ?_)
              refine v_aload_n X dX10_go_359 0 0 rfl rfl ?_
              refine t_getI X hd rfl fl_X10_125 dX10_go_360 (fun v60 hd => ?_)
              refine v_isub X dX10_go_363 ?_
              refine v_iload_n X dX10_go_364 1 2 rfl rfl ?_
              obtain ⟨u61, m1, hd, hd2⟩ := TM.bind_some hd
              have KJ : V K 5 (mkM am hn m1) 374 [(2, .int (b2i v21))] [.int u61, .int (v59 - v60), .ref am] := by
                clear hd
                have hd := hd2
                refine v_icmp_le (tgt := 381) X dX10_go_374 (by decide) (fun q => ?_) (fun q => ?_)
                · have hd := Tite_t q hd
                  refine v_iload_n X dX10_go_381 0 2 rfl rfl ?_
                  refine v_ifZ_eq (tgt := 389) X dX10_go_382 (by decide) (fun q => ?_) (fun q => ?_)
                  · have hd := Tcnd_f q hd
                    refine v_iconst (v := 3) X dX10_go_389 (by decide) ?_
                    exact v_loc [] rfl (t_at (P := fun (u58 : Int32) m => V K 5 (mkM am hn m) 390 [] [.int u58, .ref am]) hd KJ)
                  · have hd := Tcnd_t q hd
                    refine v_iconst (v := 2) X dX10_go_385 (by decide) ?_
                    refine v_goto (tgt := 390) X dX10_go_386 (by decide) ?_
                    exact v_loc [] rfl (t_at (P := fun (u58 : Int32) m => V K 5 (mkM am hn m) 390 [] [.int u58, .ref am]) hd KJ)
                · have hd := Tite_f q hd
                  refine v_iconst (v := 1) X dX10_go_377 (by decide) ?_
                  refine v_goto (tgt := 390) X dX10_go_378 (by decide) ?_
                  exact v_loc [] rfl (t_at (P := fun (u58 : Int32) m => V K 5 (mkM am hn m) 390 [] [.int u58, .ref am]) hd KJ)
              clear hd2
              refine v_ifZ_eq (tgt := 373) X dX10_go_365 (by decide) (fun q => ?_) (fun q => ?_)
              · have hd := Tcnd_f q hd
                refine v_iconst (v := 2) X dX10_go_373 (by decide) ?_
                exact v_loc [1] rfl (t_at (P := fun (u61 : Int32) m => V K 5 (mkM am hn m) 374 [(2, .int (b2i v21))] [.int u61, .int (v59 - v60), .ref am]) hd KJ)
              · have hd := Tcnd_t q hd
                refine v_bipush (v := 10) X dX10_go_368 (by decide) ?_
                refine v_goto (tgt := 374) X dX10_go_370 (by decide) ?_
                exact v_loc [1] rfl (t_at (P := fun (u61 : Int32) m => V K 5 (mkM am hn m) 374 [(2, .int (b2i v21))] [.int u61, .int (v59 - v60), .ref am]) hd KJ)
          clear hd2
          refine v_loc [3, 1, 0] rfl ?_
          refine Tloop_ind hd (fun (s22 : Bool) m => V K 5 (mkM am hn m) 215 [(0, .ref am), (2, .int (b2i v21)), (3, .int (b2i s22))] []) (fun s22 ms x m2 hd ih23 ho24 => ?_)
          refine v_aload_n X dX10_go_215 0 0 rfl rfl ?_
          refine v_aload_n X dX10_go_216 0 0 rfl rfl ?_
          refine t_getI X hd rfl fl_X10_122 dX10_go_217 (fun v26 hd => ?_)
          refine t_callV X hK hd (ct_X10_byteAt _ am v26) (lw_V q1886 q1888 qs40 q120 q1889) ⟨rfl, dn_X10_byteAt⟩ rfl ⟨by decide, by decide⟩ rfl (Nat.le_of_ble_eq_true rfl) dX10_go_220 (fun v27 ms hd => ?_)
          show V K 5 (mkM am hn ms) 223 [(0, .ref am), (2, .int (b2i v21)), (3, .int (b2i s22))] [.int v27]
          refine t_callS X hK hd (ct_X10_isLetter _ am v27) (lw_S q1880 q1881 q120 q1882) dn_X10_isLetter rfl ⟨by decide, by decide⟩ rfl (Nat.le_of_ble_eq_true rfl) dX10_go_223 (fun v28 ms hd => ?_)
          show V K 5 (mkM am hn ms) 226 [(0, .ref am), (2, .int (b2i v21)), (3, .int (b2i s22))] [.int (b2i v28)]
          refine v_ifZ_ne (tgt := 243) X dX10_go_226 (by decide) (fun q => ?_) (fun q => ?_)
          · have hd := Tcnd_t q hd
            refine v_aload_n X dX10_go_243 0 0 rfl rfl ?_
            refine t_getA (j := 0) X rfl fl_X10_7 dX10_go_244 ?_
            refine v_aload_n X dX10_go_247 0 0 rfl rfl ?_
            refine t_getI X hd rfl fl_X10_122 dX10_go_248 (fun v29 hd => ?_)
            refine t_iald (j := 0) X hd rfl dX10_go_251 (fun v30 hd => ?_)
            refine v_istore (lv2 := [(4, .int v30), (0, .ref am), (2, .int (b2i v21)), (3, .int (b2i s22))]) X dX10_go_252 (by decide) rfl ?_
            refine v_iload_n X dX10_go_254 3 3 rfl rfl ?_
            obtain ⟨u31, m1, hd, hd2⟩ := TM.bind_some hd
            have KJ : V K 5 (mkM am hn m1) 272 [(0, .ref am), (2, .int (b2i v21)), (4, .int v30)] [.int (b2i u31)] := by
              clear hd
              have hd := hd2
              refine v_istore_n (lv2 := [(3, .int (b2i u31)), (0, .ref am), (2, .int (b2i v21)), (4, .int v30)]) X dX10_go_272 3 rfl (by decide) rfl ?_
              refine v_aload_n X dX10_go_273 1 0 rfl rfl ?_
              refine t_getI X hd rfl fl_X10_122 dX10_go_274 (fun v32 hd => ?_)
              refine v_aload_n X dX10_go_277 1 0 rfl rfl ?_
              refine t_getI X hd rfl fl_X10_125 dX10_go_278 (fun v33 hd => ?_)
              refine v_isub X dX10_go_281 ?_
              refine v_bipush (v := 10) X dX10_go_282 (by decide) ?_
              obtain ⟨u34, m1, hd, hd2⟩ := TM.bind_some hd
              have KJ : V K 5 (mkM am hn m1) 307 [(0, .ref am), (2, .int (b2i v21)), (3, .int (b2i u31)), (4, .int v30)] [] := by
                clear hd
                have hd := hd2
                refine v_aload_n X dX10_go_307 0 0 rfl rfl ?_
                refine t_getI X hd rfl fl_X10_122 dX10_go_308 (fun v35 hd => ?_)
                refine v_aload_n X dX10_go_311 0 0 rfl rfl ?_
                refine t_getI X hd rfl fl_X10_125 dX10_go_312 (fun v36 hd => ?_)
                refine v_isub X dX10_go_315 ?_
                refine v_iconst (v := 2) X dX10_go_316 (by decide) ?_
                obtain ⟨u37, m1, hd, hd2⟩ := TM.bind_some hd
                have KJ : V K 5 (mkM am hn m1) 337 [(0, .ref am), (2, .int (b2i v21)), (3, .int (b2i u31))] [] := by
                  clear hd
                  have hd := hd2
                  refine v_aload_n X dX10_go_337 0 0 rfl rfl ?_
                  refine v_dup X dX10_go_338 rfl ?_
                  refine t_getI X hd rfl fl_X10_122 dX10_go_339 (fun v38 hd => ?_)
                  refine v_iconst (v := 1) X dX10_go_342 (by decide) ?_
                  refine v_iadd X dX10_go_343 ?_
                  refine t_putI X hd rfl fp_X10_122 dX10_go_344 (fun ms hd => ?_)
                  refine v_goto (tgt := 215) X dX10_go_347 (by decide) ?_
                  exact v_loc [0, 1, 2] rfl (Tlp_in (P := fun (s22 : Bool) m => V K 5 (mkM am hn m) 215 [(0, .ref am), (2, .int (b2i v21)), (3, .int (b2i s22))] []) hd ih23)
                clear hd2
                refine v_icmp_ge (tgt := 337) X dX10_go_317 (by decide) (fun q => ?_) (fun q => ?_)
                · have hd := Tite_t q hd
                  exact v_loc [0, 1, 2] rfl (t_at (P := fun (u37 : Unit) m => V K 5 (mkM am hn m) 337 [(0, .ref am), (2, .int (b2i v21)), (3, .int (b2i u31))] []) hd KJ)
                · have hd := Tite_f q hd
                  refine v_aload_n X dX10_go_320 0 0 rfl rfl ?_
                  refine v_bipush (v := 10) X dX10_go_321 (by decide) ?_
                  refine v_aload_n X dX10_go_323 0 0 rfl rfl ?_
                  refine t_getI X hd rfl fl_X10_148 dX10_go_324 (fun v39 hd => ?_)
                  refine v_imul X dX10_go_327 ?_
                  refine v_iload X dX10_go_328 3 rfl ?_
                  refine v_iadd X dX10_go_330 ?_
                  refine v_bipush (v := 48) X dX10_go_331 (by decide) ?_
                  refine v_isub X dX10_go_333 ?_
                  refine t_putI X hd rfl fp_X10_148 dX10_go_334 (fun ms hd => ?_)
                  exact v_loc [0, 1, 2] rfl (t_at (P := fun (u37 : Unit) m => V K 5 (mkM am hn m) 337 [(0, .ref am), (2, .int (b2i v21)), (3, .int (b2i u31))] []) hd KJ)
              clear hd2
              refine v_icmp_ge (tgt := 307) X dX10_go_284 (by decide) (fun q => ?_) (fun q => ?_)
              · have hd := Tite_t q hd
                exact v_loc [1, 2, 0, 3] rfl (t_at (P := fun (u34 : Unit) m => V K 5 (mkM am hn m) 307 [(0, .ref am), (2, .int (b2i v21)), (3, .int (b2i u31)), (4, .int v30)] []) hd KJ)
              · have hd := Tite_f q hd
                refine v_aload_n X dX10_go_287 1 0 rfl rfl ?_
                refine v_ldc2 X q1890 dX10_go_288 ?_
                refine v_aload_n X dX10_go_291 1 0 rfl rfl ?_
                refine t_getL X hd rfl fl_X10_144 dX10_go_292 (fun v40 hd => ?_)
                refine v_lmul X dX10_go_295 ?_
                refine v_iload X dX10_go_296 3 rfl ?_
                refine v_i2l X dX10_go_298 ?_
                refine v_ladd X dX10_go_299 ?_
                refine v_ldc2 X q1891 dX10_go_300 ?_
                refine v_lsub X dX10_go_303 ?_
                refine t_putL X hd rfl fp_X10_144 dX10_go_304 (fun ms hd => ?_)
                exact v_loc [1, 2, 0, 3] rfl (t_at (P := fun (u34 : Unit) m => V K 5 (mkM am hn m) 307 [(0, .ref am), (2, .int (b2i v21)), (3, .int (b2i u31)), (4, .int v30)] []) hd KJ)
            clear hd2
            refine v_ifZ_eq (tgt := 271) X dX10_go_255 (by decide) (fun q => ?_) (fun q => ?_)
            · have hd := Tcnd_f q hd
              refine v_iconst (v := 0) X dX10_go_271 (by decide) ?_
              exact v_loc [1, 2, 0] rfl (t_at (P := fun (u31 : Bool) m => V K 5 (mkM am hn m) 272 [(0, .ref am), (2, .int (b2i v21)), (4, .int v30)] [.int (b2i u31)]) hd KJ)
            · have hd := Tcnd_t q hd
              refine v_iload X dX10_go_258 0 rfl ?_
              refine t_callS X hK hd (ct_X10_isLetter _ am v30) (lw_S q1880 q1881 q120 q1882) dn_X10_isLetter rfl ⟨by decide, by decide⟩ rfl (Nat.le_of_ble_eq_true rfl) dX10_go_260 (fun v41 ms hd => ?_)
              show V K 5 (mkM am hn ms) 263 [(4, .int v30), (0, .ref am), (2, .int (b2i v21)), (3, .int (b2i s22))] [.int (b2i v41)]
              refine v_iload_n X dX10_go_263 2 2 rfl rfl ?_
              refine v_icmp_ne (tgt := 271) X dX10_go_264 (by decide) (fun q => ?_) (fun q => ?_)
              · have hd := Tite_f q hd
                refine v_iconst (v := 0) X dX10_go_271 (by decide) ?_
                exact v_loc [1, 2, 0] rfl (t_at (P := fun (u31 : Bool) m => V K 5 (mkM am hn m) 272 [(0, .ref am), (2, .int (b2i v21)), (4, .int v30)] [.int (b2i u31)]) hd KJ)
              · have hd := Tite_t q hd
                refine v_iconst (v := 1) X dX10_go_267 (by decide) ?_
                refine v_goto (tgt := 272) X dX10_go_268 (by decide) ?_
                exact v_loc [1, 2, 0] rfl (t_at (P := fun (u31 : Bool) m => V K 5 (mkM am hn m) 272 [(0, .ref am), (2, .int (b2i v21)), (4, .int v30)] [.int (b2i u31)]) hd KJ)
          · have hd := Tcnd_f q hd
            refine v_aload_n X dX10_go_229 0 0 rfl rfl ?_
            refine v_aload_n X dX10_go_230 0 0 rfl rfl ?_
            refine t_getI X hd rfl fl_X10_122 dX10_go_231 (fun v42 hd => ?_)
            refine t_callV X hK hd (ct_X10_byteAt _ am v42) (lw_V q1886 q1888 qs40 q120 q1889) ⟨rfl, dn_X10_byteAt⟩ rfl ⟨by decide, by decide⟩ rfl (Nat.le_of_ble_eq_true rfl) dX10_go_234 (fun v43 ms hd => ?_)
            show V K 5 (mkM am hn ms) 237 [(0, .ref am), (2, .int (b2i v21)), (3, .int (b2i s22))] [.int v43]
            refine t_callS X hK hd (ct_X10_isDigit _ am v43) (lw_S q1883 q1884 q120 q1885) dn_X10_isDigit rfl ⟨by decide, by decide⟩ rfl (Nat.le_of_ble_eq_true rfl) dX10_go_237 (fun v44 ms hd => ?_)
            show V K 5 (mkM am hn ms) 240 [(0, .ref am), (2, .int (b2i v21)), (3, .int (b2i s22))] [.int (b2i v44)]
            refine v_ifZ_eq (tgt := 350) X dX10_go_240 (by decide) (fun q => ?_) (fun q => ?_)
            · have hd := Tcnd_f q hd
              exact v_loc [0, 1, 2] rfl (t_at (P := fun (e25 : Bool) m => V K 5 (mkM am hn m) 350 [(0, .ref am), (2, .int (b2i v21)), (3, .int (b2i e25))] []) (Tlp_out hd ho24) KX)
            · have hd := Tcnd_t q hd
              refine v_aload_n X dX10_go_243 0 0 rfl rfl ?_
              refine t_getA (j := 0) X rfl fl_X10_7 dX10_go_244 ?_
              refine v_aload_n X dX10_go_247 0 0 rfl rfl ?_
              refine t_getI X hd rfl fl_X10_122 dX10_go_248 (fun v45 hd => ?_)
              refine t_iald (j := 0) X hd rfl dX10_go_251 (fun v46 hd => ?_)
              refine v_istore (lv2 := [(4, .int v46), (0, .ref am), (2, .int (b2i v21)), (3, .int (b2i s22))]) X dX10_go_252 (by decide) rfl ?_
              refine v_iload_n X dX10_go_254 3 3 rfl rfl ?_
              obtain ⟨u47, m1, hd, hd2⟩ := TM.bind_some hd
              have KJ : V K 5 (mkM am hn m1) 272 [(0, .ref am), (2, .int (b2i v21)), (4, .int v46)] [.int (b2i u47)] := by
                clear hd
                have hd := hd2
                refine v_istore_n (lv2 := [(3, .int (b2i u47)), (0, .ref am), (2, .int (b2i v21)), (4, .int v46)]) X dX10_go_272 3 rfl (by decide) rfl ?_
                refine v_aload_n X dX10_go_273 1 0 rfl rfl ?_
                refine t_getI X hd rfl fl_X10_122 dX10_go_274 (fun v48 hd => ?_)
                refine v_aload_n X dX10_go_277 1 0 rfl rfl ?_
                refine t_getI X hd rfl fl_X10_125 dX10_go_278 (fun v49 hd => ?_)
                refine v_isub X dX10_go_281 ?_
                refine v_bipush (v := 10) X dX10_go_282 (by decide) ?_
                obtain ⟨u50, m1, hd, hd2⟩ := TM.bind_some hd
                have KJ : V K 5 (mkM am hn m1) 307 [(0, .ref am), (2, .int (b2i v21)), (3, .int (b2i u47)), (4, .int v46)] [] := by
                  clear hd
                  have hd := hd2
                  refine v_aload_n X dX10_go_307 0 0 rfl rfl ?_
                  refine t_getI X hd rfl fl_X10_122 dX10_go_308 (fun v51 hd => ?_)
                  refine v_aload_n X dX10_go_311 0 0 rfl rfl ?_
                  refine t_getI X hd rfl fl_X10_125 dX10_go_312 (fun v52 hd => ?_)
                  refine v_isub X dX10_go_315 ?_
                  refine v_iconst (v := 2) X dX10_go_316 (by decide) ?_
                  obtain ⟨u53, m1, hd, hd2⟩ := TM.bind_some hd
                  have KJ : V K 5 (mkM am hn m1) 337 [(0, .ref am), (2, .int (b2i v21)), (3, .int (b2i u47))] [] := by
                    clear hd
                    have hd := hd2
                    refine v_aload_n X dX10_go_337 0 0 rfl rfl ?_
                    refine v_dup X dX10_go_338 rfl ?_
                    refine t_getI X hd rfl fl_X10_122 dX10_go_339 (fun v54 hd => ?_)
                    refine v_iconst (v := 1) X dX10_go_342 (by decide) ?_
                    refine v_iadd X dX10_go_343 ?_
                    refine t_putI X hd rfl fp_X10_122 dX10_go_344 (fun ms hd => ?_)
                    refine v_goto (tgt := 215) X dX10_go_347 (by decide) ?_
                    exact v_loc [0, 1, 2] rfl (Tlp_in (P := fun (s22 : Bool) m => V K 5 (mkM am hn m) 215 [(0, .ref am), (2, .int (b2i v21)), (3, .int (b2i s22))] []) hd ih23)
                  clear hd2
                  refine v_icmp_ge (tgt := 337) X dX10_go_317 (by decide) (fun q => ?_) (fun q => ?_)
                  · have hd := Tite_t q hd
                    exact v_loc [0, 1, 2] rfl (t_at (P := fun (u53 : Unit) m => V K 5 (mkM am hn m) 337 [(0, .ref am), (2, .int (b2i v21)), (3, .int (b2i u47))] []) hd KJ)
                  · have hd := Tite_f q hd
                    refine v_aload_n X dX10_go_320 0 0 rfl rfl ?_
                    refine v_bipush (v := 10) X dX10_go_321 (by decide) ?_
                    refine v_aload_n X dX10_go_323 0 0 rfl rfl ?_
                    refine t_getI X hd rfl fl_X10_148 dX10_go_324 (fun v55 hd => ?_)
                    refine v_imul X dX10_go_327 ?_
                    refine v_iload X dX10_go_328 3 rfl ?_
                    refine v_iadd X dX10_go_330 ?_
                    refine v_bipush (v := 48) X dX10_go_331 (by decide) ?_
                    refine v_isub X dX10_go_333 ?_
                    refine t_putI X hd rfl fp_X10_148 dX10_go_334 (fun ms hd => ?_)
                    exact v_loc [0, 1, 2] rfl (t_at (P := fun (u53 : Unit) m => V K 5 (mkM am hn m) 337 [(0, .ref am), (2, .int (b2i v21)), (3, .int (b2i u47))] []) hd KJ)
                clear hd2
                refine v_icmp_ge (tgt := 307) X dX10_go_284 (by decide) (fun q => ?_) (fun q => ?_)
                · have hd := Tite_t q hd
                  exact v_loc [1, 2, 0, 3] rfl (t_at (P := fun (u50 : Unit) m => V K 5 (mkM am hn m) 307 [(0, .ref am), (2, .int (b2i v21)), (3, .int (b2i u47)), (4, .int v46)] []) hd KJ)
                · have hd := Tite_f q hd
                  refine v_aload_n X dX10_go_287 1 0 rfl rfl ?_
                  refine v_ldc2 X q1890 dX10_go_288 ?_
                  refine v_aload_n X dX10_go_291 1 0 rfl rfl ?_
                  refine t_getL X hd rfl fl_X10_144 dX10_go_292 (fun v56 hd => ?_)
                  refine v_lmul X dX10_go_295 ?_
                  refine v_iload X dX10_go_296 3 rfl ?_
                  refine v_i2l X dX10_go_298 ?_
                  refine v_ladd X dX10_go_299 ?_
                  refine v_ldc2 X q1891 dX10_go_300 ?_
                  refine v_lsub X dX10_go_303 ?_
                  refine t_putL X hd rfl fp_X10_144 dX10_go_304 (fun ms hd => ?_)
                  exact v_loc [1, 2, 0, 3] rfl (t_at (P := fun (u50 : Unit) m => V K 5 (mkM am hn m) 307 [(0, .ref am), (2, .int (b2i v21)), (3, .int (b2i u47)), (4, .int v46)] []) hd KJ)
              clear hd2
              refine v_ifZ_eq (tgt := 271) X dX10_go_255 (by decide) (fun q => ?_) (fun q => ?_)
              · have hd := Tcnd_f q hd
                refine v_iconst (v := 0) X dX10_go_271 (by decide) ?_
                exact v_loc [1, 2, 0] rfl (t_at (P := fun (u47 : Bool) m => V K 5 (mkM am hn m) 272 [(0, .ref am), (2, .int (b2i v21)), (4, .int v46)] [.int (b2i u47)]) hd KJ)
              · have hd := Tcnd_t q hd
                refine v_iload X dX10_go_258 0 rfl ?_
                refine t_callS X hK hd (ct_X10_isLetter _ am v46) (lw_S q1880 q1881 q120 q1882) dn_X10_isLetter rfl ⟨by decide, by decide⟩ rfl (Nat.le_of_ble_eq_true rfl) dX10_go_260 (fun v57 ms hd => ?_)
                show V K 5 (mkM am hn ms) 263 [(4, .int v46), (0, .ref am), (2, .int (b2i v21)), (3, .int (b2i s22))] [.int (b2i v57)]
                refine v_iload_n X dX10_go_263 2 2 rfl rfl ?_
                refine v_icmp_ne (tgt := 271) X dX10_go_264 (by decide) (fun q => ?_) (fun q => ?_)
                · have hd := Tite_f q hd
                  refine v_iconst (v := 0) X dX10_go_271 (by decide) ?_
                  exact v_loc [1, 2, 0] rfl (t_at (P := fun (u47 : Bool) m => V K 5 (mkM am hn m) 272 [(0, .ref am), (2, .int (b2i v21)), (4, .int v46)] [.int (b2i u47)]) hd KJ)
                · have hd := Tite_t q hd
                  refine v_iconst (v := 1) X dX10_go_267 (by decide) ?_
                  refine v_goto (tgt := 272) X dX10_go_268 (by decide) ?_
                  exact v_loc [1, 2, 0] rfl (t_at (P := fun (u47 : Bool) m => V K 5 (mkM am hn m) 272 [(0, .ref am), (2, .int (b2i v21)), (4, .int v46)] [.int (b2i u47)]) hd KJ)
        · have hd := Tcnd_f q hd
          refine v_iload_n X dX10_go_130 0 1 rfl rfl ?_
          refine t_callS X hK hd (ct_X10_isDigit _ am v19) (lw_S q1883 q1884 q120 q1885) dn_X10_isDigit rfl ⟨by decide, by decide⟩ rfl (Nat.le_of_ble_eq_true rfl) dX10_go_131 (fun v62 ms hd => ?_)
          show V K 5 (mkM am hn ms) 134 [(1, .int v19), (0, .ref am)] [.int (b2i v62)]
          refine v_ifZ_ne (tgt := 198) X dX10_go_134 (by decide) (fun q => ?_) (fun q => ?_)
          · have hd := Tcnd_t q hd
            refine v_iload_n X dX10_go_198 0 1 rfl rfl ?_
            refine t_callS X hK hd (ct_X10_isLetter _ am v19) (lw_S q1880 q1881 q120 q1882) dn_X10_isLetter rfl ⟨by decide, by decide⟩ rfl (Nat.le_of_ble_eq_true rfl) dX10_go_199 (fun v63 ms hd => ?_)
            show V K 5 (mkM am hn ms) 202 [(1, .int v19), (0, .ref am)] [.int (b2i v63)]
            refine v_istore_n (lv2 := [(2, .int (b2i v63)), (1, .int v19), (0, .ref am)]) X dX10_go_202 2 rfl (by decide) rfl ?_
            refine v_iconst (v := 1) X dX10_go_203 (by decide) ?_
            refine v_istore_n (lv2 := [(3, .int 1), (2, .int (b2i v63)), (1, .int v19), (0, .ref am)]) X dX10_go_204 3 rfl (by decide) rfl ?_
            refine v_aload_n X dX10_go_205 3 0 rfl rfl ?_
            refine v_lconst (v := 0) X dX10_go_206 (by decide) ?_
            refine t_putL X hd rfl fp_X10_144 dX10_go_207 (fun ms hd => ?_)
            refine v_aload_n X dX10_go_210 3 0 rfl rfl ?_
            refine v_iconst (v := 0) X dX10_go_211 (by decide) ?_
            refine t_putI X hd rfl fp_X10_148 dX10_go_212 (fun ms hd => ?_)
            obtain ⟨e67, m1, hd, hd2⟩ := TM.bind_some hd
            have KX : V K 5 (mkM am hn m1) 350 [(0, .ref am), (2, .int (b2i v63)), (3, .int (b2i e67))] [] := by
              clear hd
              have hd := hd2
              refine v_aload_n X dX10_go_350 0 0 rfl rfl ?_
              refine v_iload_n X dX10_go_351 2 3 rfl rfl ?_
              obtain ⟨u100, m1, hd, hd2⟩ := TM.bind_some hd
              have KJ : V K 5 (mkM am hn m1) 390 [] [.int u100, .ref am] := by
                clear hd
                have hd := hd2
                refine t_putI X hd rfl fp_X10_131 dX10_go_390 (fun ms hd => ?_)
                exact t_vret X hK hd ho dX10_go_393
              clear hd2
              refine v_ifZ_eq (tgt := 377) X dX10_go_352 (by decide) (fun q => ?_) (fun q => ?_)
              · have hd := Tcnd_f q hd
                refine v_iconst (v := 1) X dX10_go_377 (by decide) ?_
                refine v_goto (tgt := 390) X dX10_go_378 (by decide) ?_
                exact v_loc [] rfl (t_at (P := fun (u100 : Int32) m => V K 5 (mkM am hn m) 390 [] [.int u100, .ref am]) hd KJ)
              · have hd := Tcnd_t q hd
                refine v_aload_n X dX10_go_355 0 0 rfl rfl ?_
                refine t_getI X hd rfl fl_X10_122 dX10_go_356 (fun v101 hd => ?_)
                refine v_aload_n X dX10_go_359 0 0 rfl rfl ?_
                refine t_getI X hd rfl fl_X10_125 dX10_go_360 (fun v102 hd => ?_)
                refine v_isub X dX10_go_363 ?_
                refine v_iload_n X dX10_go_364 1 2 rfl rfl ?_
                obtain ⟨u103, m1, hd, hd2⟩ := TM.bind_some hd
                have KJ : V K 5 (mkM am hn m1) 374 [(2, .int (b2i v63))] [.int u103, .int (v101 - v102), .ref am] := by
                  clear hd
                  have hd := hd2
                  refine v_icmp_le (tgt := 381) X dX10_go_374 (by decide) (fun q => ?_) (fun q => ?_)
                  · have hd := Tite_t q hd
                    refine v_iload_n X dX10_go_381 0 2 rfl rfl ?_
                    refine v_ifZ_eq (tgt := 389) X dX10_go_382 (by decide) (fun q => ?_) (fun q => ?_)
                    · have hd := Tcnd_f q hd
                      refine v_iconst (v := 3) X dX10_go_389 (by decide) ?_
                      exact v_loc [] rfl (t_at (P := fun (u100 : Int32) m => V K 5 (mkM am hn m) 390 [] [.int u100, .ref am]) hd KJ)
                    · have hd := Tcnd_t q hd
                      refine v_iconst (v := 2) X dX10_go_385 (by decide) ?_
                      refine v_goto (tgt := 390) X dX10_go_386 (by decide) ?_
                      exact v_loc [] rfl (t_at (P := fun (u100 : Int32) m => V K 5 (mkM am hn m) 390 [] [.int u100, .ref am]) hd KJ)
                  · have hd := Tite_f q hd
                    refine v_iconst (v := 1) X dX10_go_377 (by decide) ?_
                    refine v_goto (tgt := 390) X dX10_go_378 (by decide) ?_
                    exact v_loc [] rfl (t_at (P := fun (u100 : Int32) m => V K 5 (mkM am hn m) 390 [] [.int u100, .ref am]) hd KJ)
                clear hd2
                refine v_ifZ_eq (tgt := 373) X dX10_go_365 (by decide) (fun q => ?_) (fun q => ?_)
                · have hd := Tcnd_f q hd
                  refine v_iconst (v := 2) X dX10_go_373 (by decide) ?_
                  exact v_loc [1] rfl (t_at (P := fun (u103 : Int32) m => V K 5 (mkM am hn m) 374 [(2, .int (b2i v63))] [.int u103, .int (v101 - v102), .ref am]) hd KJ)
                · have hd := Tcnd_t q hd
                  refine v_bipush (v := 10) X dX10_go_368 (by decide) ?_
                  refine v_goto (tgt := 374) X dX10_go_370 (by decide) ?_
                  exact v_loc [1] rfl (t_at (P := fun (u103 : Int32) m => V K 5 (mkM am hn m) 374 [(2, .int (b2i v63))] [.int u103, .int (v101 - v102), .ref am]) hd KJ)
            clear hd2
            refine v_loc [3, 1, 0] rfl ?_
            refine Tloop_ind hd (fun (s64 : Bool) m => V K 5 (mkM am hn m) 215 [(0, .ref am), (2, .int (b2i v63)), (3, .int (b2i s64))] []) (fun s64 ms x m2 hd ih65 ho66 => ?_)
            refine v_aload_n X dX10_go_215 0 0 rfl rfl ?_
            refine v_aload_n X dX10_go_216 0 0 rfl rfl ?_
            refine t_getI X hd rfl fl_X10_122 dX10_go_217 (fun v68 hd => ?_)
            refine t_callV X hK hd (ct_X10_byteAt _ am v68) (lw_V q1886 q1888 qs40 q120 q1889) ⟨rfl, dn_X10_byteAt⟩ rfl ⟨by decide, by decide⟩ rfl (Nat.le_of_ble_eq_true rfl) dX10_go_220 (fun v69 ms hd => ?_)
            show V K 5 (mkM am hn ms) 223 [(0, .ref am), (2, .int (b2i v63)), (3, .int (b2i s64))] [.int v69]
            refine t_callS X hK hd (ct_X10_isLetter _ am v69) (lw_S q1880 q1881 q120 q1882) dn_X10_isLetter rfl ⟨by decide, by decide⟩ rfl (Nat.le_of_ble_eq_true rfl) dX10_go_223 (fun v70 ms hd => ?_)
            show V K 5 (mkM am hn ms) 226 [(0, .ref am), (2, .int (b2i v63)), (3, .int (b2i s64))] [.int (b2i v70)]
            refine v_ifZ_ne (tgt := 243) X dX10_go_226 (by decide) (fun q => ?_) (fun q => ?_)
            · have hd := Tcnd_t q hd
              refine v_aload_n X dX10_go_243 0 0 rfl rfl ?_
              refine t_getA (j := 0) X rfl fl_X10_7 dX10_go_244 ?_
              refine v_aload_n X dX10_go_247 0 0 rfl rfl ?_
              refine t_getI X hd rfl fl_X10_122 dX10_go_248 (fun v71 hd => ?_)
              refine t_iald (j := 0) X hd rfl dX10_go_251 (fun v72 hd => ?_)
              refine v_istore (lv2 := [(4, .int v72), (0, .ref am), (2, .int (b2i v63)), (3, .int (b2i s64))]) X dX10_go_252 (by decide) rfl ?_
              refine v_iload_n X dX10_go_254 3 3 rfl rfl ?_
              obtain ⟨u73, m1, hd, hd2⟩ := TM.bind_some hd
              have KJ : V K 5 (mkM am hn m1) 272 [(0, .ref am), (2, .int (b2i v63)), (4, .int v72)] [.int (b2i u73)] := by
                clear hd
                have hd := hd2
                refine v_istore_n (lv2 := [(3, .int (b2i u73)), (0, .ref am), (2, .int (b2i v63)), (4, .int v72)]) X dX10_go_272 3 rfl (by decide) rfl ?_
                refine v_aload_n X dX10_go_273 1 0 rfl rfl ?_
                refine t_getI X hd rfl fl_X10_122 dX10_go_274 (fun v74 hd => ?_)
                refine v_aload_n X dX10_go_277 1 0 rfl rfl ?_
                refine t_getI X hd rfl fl_X10_125 dX10_go_278 (fun v75 hd => ?_)
                refine v_isub X dX10_go_281 ?_
                refine v_bipush (v := 10) X dX10_go_282 (by decide) ?_
                obtain ⟨u76, m1, hd, hd2⟩ := TM.bind_some hd
                have KJ : V K 5 (mkM am hn m1) 307 [(0, .ref am), (2, .int (b2i v63)), (3, .int (b2i u73)), (4, .int v72)] [] := by
                  clear hd
                  have hd := hd2
                  refine v_aload_n X dX10_go_307 0 0 rfl rfl ?_
                  refine t_getI X hd rfl fl_X10_122 dX10_go_308 (fun v77 hd => ?_)
                  refine v_aload_n X dX10_go_311 0 0 rfl rfl ?_
                  refine t_getI X hd rfl fl_X10_125 dX10_go_312 (fun v78 hd => ?_)
                  refine v_isub X dX10_go_315 ?_
                  refine v_iconst (v := 2) X dX10_go_316 (by decide) ?_
                  obtain ⟨u79, m1, hd, hd2⟩ := TM.bind_some hd
                  have KJ : V K 5 (mkM am hn m1) 337 [(0, .ref am), (2, .int (b2i v63)), (3, .int (b2i u73))] [] := by
                    clear hd
                    have hd := hd2
                    refine v_aload_n X dX10_go_337 0 0 rfl rfl ?_
                    refine v_dup X dX10_go_338 rfl ?_
                    refine t_getI X hd rfl fl_X10_122 dX10_go_339 (fun v80 hd => ?_)
                    refine v_iconst (v := 1) X dX10_go_342 (by decide) ?_
                    refine v_iadd X dX10_go_343 ?_
                    refine t_putI X hd rfl fp_X10_122 dX10_go_344 (fun ms hd => ?_)
                    refine v_goto (tgt := 215) X dX10_go_347 (by decide) ?_
                    exact v_loc [0, 1, 2] rfl (Tlp_in (P := fun (s64 : Bool) m => V K 5 (mkM am hn m) 215 [(0, .ref am), (2, .int (b2i v63)), (3, .int (b2i s64))] []) hd ih65)
                  clear hd2
                  refine v_icmp_ge (tgt := 337) X dX10_go_317 (by decide) (fun q => ?_) (fun q => ?_)
                  · have hd := Tite_t q hd
                    exact v_loc [0, 1, 2] rfl (t_at (P := fun (u79 : Unit) m => V K 5 (mkM am hn m) 337 [(0, .ref am), (2, .int (b2i v63)), (3, .int (b2i u73))] []) hd KJ)
                  · have hd := Tite_f q hd
                    refine v_aload_n X dX10_go_320 0 0 rfl rfl ?_
                    refine v_bipush (v := 10) X dX10_go_321 (by decide) ?_
                    refine v_aload_n X dX10_go_323 0 0 rfl rfl ?_
                    refine t_getI X hd rfl fl_X10_148 dX10_go_324 (fun v81 hd => ?_)
                    refine v_imul X dX10_go_327 ?_
                    refine v_iload X dX10_go_328 3 rfl ?_
                    refine v_iadd X dX10_go_330 ?_
                    refine v_bipush (v := 48) X dX10_go_331 (by decide) ?_
                    refine v_isub X dX10_go_333 ?_
                    refine t_putI X hd rfl fp_X10_148 dX10_go_334 (fun ms hd => ?_)
                    exact v_loc [0, 1, 2] rfl (t_at (P := fun (u79 : Unit) m => V K 5 (mkM am hn m) 337 [(0, .ref am), (2, .int (b2i v63)), (3, .int (b2i u73))] []) hd KJ)
                clear hd2
                refine v_icmp_ge (tgt := 307) X dX10_go_284 (by decide) (fun q => ?_) (fun q => ?_)
                · have hd := Tite_t q hd
                  exact v_loc [1, 2, 0, 3] rfl (t_at (P := fun (u76 : Unit) m => V K 5 (mkM am hn m) 307 [(0, .ref am), (2, .int (b2i v63)), (3, .int (b2i u73)), (4, .int v72)] []) hd KJ)
                · have hd := Tite_f q hd
                  refine v_aload_n X dX10_go_287 1 0 rfl rfl ?_
                  refine v_ldc2 X q1890 dX10_go_288 ?_
                  refine v_aload_n X dX10_go_291 1 0 rfl rfl ?_
                  refine t_getL X hd rfl fl_X10_144 dX10_go_292 (fun v82 hd => ?_)
                  refine v_lmul X dX10_go_295 ?_
                  refine v_iload X dX10_go_296 3 rfl ?_
                  refine v_i2l X dX10_go_298 ?_
                  refine v_ladd X dX10_go_299 ?_
                  refine v_ldc2 X q1891 dX10_go_300 ?_
                  refine v_lsub X dX10_go_303 ?_
                  refine t_putL X hd rfl fp_X10_144 dX10_go_304 (fun ms hd => ?_)
                  exact v_loc [1, 2, 0, 3] rfl (t_at (P := fun (u76 : Unit) m => V K 5 (mkM am hn m) 307 [(0, .ref am), (2, .int (b2i v63)), (3, .int (b2i u73)), (4, .int v72)] []) hd KJ)
              clear hd2
              refine v_ifZ_eq (tgt := 271) X dX10_go_255 (by decide) (fun q => ?_) (fun q => ?_)
              · have hd := Tcnd_f q hd
                refine v_iconst (v := 0) X dX10_go_271 (by decide) ?_
                exact v_loc [1, 2, 0] rfl (t_at (P := fun (u73 : Bool) m => V K 5 (mkM am hn m) 272 [(0, .ref am), (2, .int (b2i v63)), (4, .int v72)] [.int (b2i u73)]) hd KJ)
              · have hd := Tcnd_t q hd
                refine v_iload X dX10_go_258 0 rfl ?_
                refine t_callS X hK hd (ct_X10_isLetter _ am v72) (lw_S q1880 q1881 q120 q1882) dn_X10_isLetter rfl ⟨by decide, by decide⟩ rfl (Nat.le_of_ble_eq_true rfl) dX10_go_260 (fun v83 ms hd => ?_)
                show V K 5 (mkM am hn ms) 263 [(4, .int v72), (0, .ref am), (2, .int (b2i v63)), (3, .int (b2i s64))] [.int (b2i v83)]
                refine v_iload_n X dX10_go_263 2 2 rfl rfl ?_
                refine v_icmp_ne (tgt := 271) X dX10_go_264 (by decide) (fun q => ?_) (fun q => ?_)
                · have hd := Tite_f q hd
                  refine v_iconst (v := 0) X dX10_go_271 (by decide) ?_
                  exact v_loc [1, 2, 0] rfl (t_at (P := fun (u73 : Bool) m => V K 5 (mkM am hn m) 272 [(0, .ref am), (2, .int (b2i v63)), (4, .int v72)] [.int (b2i u73)]) hd KJ)
                · have hd := Tite_t q hd
                  refine v_iconst (v := 1) X dX10_go_267 (by decide) ?_
                  refine v_goto (tgt := 272) X dX10_go_268 (by decide) ?_
                  exact v_loc [1, 2, 0] rfl (t_at (P := fun (u73 : Bool) m => V K 5 (mkM am hn m) 272 [(0, .ref am), (2, .int (b2i v63)), (4, .int v72)] [.int (b2i u73)]) hd KJ)
            · have hd := Tcnd_f q hd
              refine v_aload_n X dX10_go_229 0 0 rfl rfl ?_
              refine v_aload_n X dX10_go_230 0 0 rfl rfl ?_
              refine t_getI X hd rfl fl_X10_122 dX10_go_231 (fun v84 hd => ?_)
              refine t_callV X hK hd (ct_X10_byteAt _ am v84) (lw_V q1886 q1888 qs40 q120 q1889) ⟨rfl, dn_X10_byteAt⟩ rfl ⟨by decide, by decide⟩ rfl (Nat.le_of_ble_eq_true rfl) dX10_go_234 (fun v85 ms hd => ?_)
              show V K 5 (mkM am hn ms) 237 [(0, .ref am), (2, .int (b2i v63)), (3, .int (b2i s64))] [.int v85]
              refine t_callS X hK hd (ct_X10_isDigit _ am v85) (lw_S q1883 q1884 q120 q1885) dn_X10_isDigit rfl ⟨by decide, by decide⟩ rfl (Nat.le_of_ble_eq_true rfl) dX10_go_237 (fun v86 ms hd => ?_)
              show V K 5 (mkM am hn ms) 240 [(0, .ref am), (2, .int (b2i v63)), (3, .int (b2i s64))] [.int (b2i v86)]
              refine v_ifZ_eq (tgt := 350) X dX10_go_240 (by decide) (fun q => ?_) (fun q => ?_)
              · have hd := Tcnd_f q hd
                exact v_loc [0, 1, 2] rfl (t_at (P := fun (e67 : Bool) m => V K 5 (mkM am hn m) 350 [(0, .ref am), (2, .int (b2i v63)), (3, .int (b2i e67))] []) (Tlp_out hd ho66) KX)
              · have hd := Tcnd_t q hd
                refine v_aload_n X dX10_go_243 0 0 rfl rfl ?_
                refine t_getA (j := 0) X rfl fl_X10_7 dX10_go_244 ?_
                refine v_aload_n X dX10_go_247 0 0 rfl rfl ?_
                refine t_getI X hd rfl fl_X10_122 dX10_go_248 (fun v87 hd => ?_)
                refine t_iald (j := 0) X hd rfl dX10_go_251 (fun v88 hd => ?_)
                refine v_istore (lv2 := [(4, .int v88), (0, .ref am), (2, .int (b2i v63)), (3, .int (b2i s64))]) X dX10_go_252 (by decide) rfl ?_
                refine v_iload_n X dX10_go_254 3 3 rfl rfl ?_
                obtain ⟨u89, m1, hd, hd2⟩ := TM.bind_some hd
                have KJ : V K 5 (mkM am hn m1) 272 [(0, .ref am), (2, .int (b2i v63)), (4, .int v88)] [.int (b2i u89)] := by
                  clear hd
                  have hd := hd2
                  refine v_istore_n (lv2 := [(3, .int (b2i u89)), (0, .ref am), (2, .int (b2i v63)), (4, .int v88)]) X dX10_go_272 3 rfl (by decide) rfl ?_
                  refine v_aload_n X dX10_go_273 1 0 rfl rfl ?_
                  refine t_getI X hd rfl fl_X10_122 dX10_go_274 (fun v90 hd => ?_)
                  refine v_aload_n X dX10_go_277 1 0 rfl rfl ?_
                  refine t_getI X hd rfl fl_X10_125 dX10_go_278 (fun v91 hd => ?_)
                  refine v_isub X dX10_go_281 ?_
                  refine v_bipush (v := 10) X dX10_go_282 (by decide) ?_
                  obtain ⟨u92, m1, hd, hd2⟩ := TM.bind_some hd
                  have KJ : V K 5 (mkM am hn m1) 307 [(0, .ref am), (2, .int (b2i v63)), (3, .int (b2i u89)), (4, .int v88)] [] := by
                    clear hd
                    have hd := hd2
                    refine v_aload_n X dX10_go_307 0 0 rfl rfl ?_
                    refine t_getI X hd rfl fl_X10_122 dX10_go_308 (fun v93 hd => ?_)
                    refine v_aload_n X dX10_go_311 0 0 rfl rfl ?_
                    refine t_getI X hd rfl fl_X10_125 dX10_go_312 (fun v94 hd => ?_)
                    refine v_isub X dX10_go_315 ?_
                    refine v_iconst (v := 2) X dX10_go_316 (by decide) ?_
                    obtain ⟨u95, m1, hd, hd2⟩ := TM.bind_some hd
                    have KJ : V K 5 (mkM am hn m1) 337 [(0, .ref am), (2, .int (b2i v63)), (3, .int (b2i u89))] [] := by
                      clear hd
                      have hd := hd2
                      refine v_aload_n X dX10_go_337 0 0 rfl rfl ?_
                      refine v_dup X dX10_go_338 rfl ?_
                      refine t_getI X hd rfl fl_X10_122 dX10_go_339 (fun v96 hd => ?_)
                      refine v_iconst (v := 1) X dX10_go_342 (by decide) ?_
                      refine v_iadd X dX10_go_343 ?_
                      refine t_putI X hd rfl fp_X10_122 dX10_go_344 (fun ms hd => ?_)
                      refine v_goto (tgt := 215) X dX10_go_347 (by decide) ?_
                      exact v_loc [0, 1, 2] rfl (Tlp_in (P := fun (s64 : Bool) m => V K 5 (mkM am hn m) 215 [(0, .ref am), (2, .int (b2i v63)), (3, .int (b2i s64))] []) hd ih65)
                    clear hd2
                    refine v_icmp_ge (tgt := 337) X dX10_go_317 (by decide) (fun q => ?_) (fun q => ?_)
                    · have hd := Tite_t q hd
                      exact v_loc [0, 1, 2] rfl (t_at (P := fun (u95 : Unit) m => V K 5 (mkM am hn m) 337 [(0, .ref am), (2, .int (b2i v63)), (3, .int (b2i u89))] []) hd KJ)
                    · have hd := Tite_f q hd
                      refine v_aload_n X dX10_go_320 0 0 rfl rfl ?_
                      refine v_bipush (v := 10) X dX10_go_321 (by decide) ?_
                      refine v_aload_n X dX10_go_323 0 0 rfl rfl ?_
                      refine t_getI X hd rfl fl_X10_148 dX10_go_324 (fun v97 hd => ?_)
                      refine v_imul X dX10_go_327 ?_
                      refine v_iload X dX10_go_328 3 rfl ?_
                      refine v_iadd X dX10_go_330 ?_
                      refine v_bipush (v := 48) X dX10_go_331 (by decide) ?_
                      refine v_isub X dX10_go_333 ?_
                      refine t_putI X hd rfl fp_X10_148 dX10_go_334 (fun ms hd => ?_)
                      exact v_loc [0, 1, 2] rfl (t_at (P := fun (u95 : Unit) m => V K 5 (mkM am hn m) 337 [(0, .ref am), (2, .int (b2i v63)), (3, .int (b2i u89))] []) hd KJ)
                  clear hd2
                  refine v_icmp_ge (tgt := 307) X dX10_go_284 (by decide) (fun q => ?_) (fun q => ?_)
                  · have hd := Tite_t q hd
                    exact v_loc [1, 2, 0, 3] rfl (t_at (P := fun (u92 : Unit) m => V K 5 (mkM am hn m) 307 [(0, .ref am), (2, .int (b2i v63)), (3, .int (b2i u89)), (4, .int v88)] []) hd KJ)
                  · have hd := Tite_f q hd
                    refine v_aload_n X dX10_go_287 1 0 rfl rfl ?_
                    refine v_ldc2 X q1890 dX10_go_288 ?_
                    refine v_aload_n X dX10_go_291 1 0 rfl rfl ?_
                    refine t_getL X hd rfl fl_X10_144 dX10_go_292 (fun v98 hd => ?_)
                    refine v_lmul X dX10_go_295 ?_
                    refine v_iload X dX10_go_296 3 rfl ?_
                    refine v_i2l X dX10_go_298 ?_
                    refine v_ladd X dX10_go_299 ?_
                    refine v_ldc2 X q1891 dX10_go_300 ?_
                    refine v_lsub X dX10_go_303 ?_
                    refine t_putL X hd rfl fp_X10_144 dX10_go_304 (fun ms hd => ?_)
                    exact v_loc [1, 2, 0, 3] rfl (t_at (P := fun (u92 : Unit) m => V K 5 (mkM am hn m) 307 [(0, .ref am), (2, .int (b2i v63)), (3, .int (b2i u89)), (4, .int v88)] []) hd KJ)
                clear hd2
                refine v_ifZ_eq (tgt := 271) X dX10_go_255 (by decide) (fun q => ?_) (fun q => ?_)
                · have hd := Tcnd_f q hd
                  refine v_iconst (v := 0) X dX10_go_271 (by decide) ?_
                  exact v_loc [1, 2, 0] rfl (t_at (P := fun (u89 : Bool) m => V K 5 (mkM am hn m) 272 [(0, .ref am), (2, .int (b2i v63)), (4, .int v88)] [.int (b2i u89)]) hd KJ)
                · have hd := Tcnd_t q hd
                  refine v_iload X dX10_go_258 0 rfl ?_
                  refine t_callS X hK hd (ct_X10_isLetter _ am v88) (lw_S q1880 q1881 q120 q1882) dn_X10_isLetter rfl ⟨by decide, by decide⟩ rfl (Nat.le_of_ble_eq_true rfl) dX10_go_260 (fun v99 ms hd => ?_)
                  show V K 5 (mkM am hn ms) 263 [(4, .int v88), (0, .ref am), (2, .int (b2i v63)), (3, .int (b2i s64))] [.int (b2i v99)]
                  refine v_iload_n X dX10_go_263 2 2 rfl rfl ?_
                  refine v_icmp_ne (tgt := 271) X dX10_go_264 (by decide) (fun q => ?_) (fun q => ?_)
                  · have hd := Tite_f q hd
                    refine v_iconst (v := 0) X dX10_go_271 (by decide) ?_
                    exact v_loc [1, 2, 0] rfl (t_at (P := fun (u89 : Bool) m => V K 5 (mkM am hn m) 272 [(0, .ref am), (2, .int (b2i v63)), (4, .int v88)] [.int (b2i u89)]) hd KJ)
                  · have hd := Tite_t q hd
                    refine v_iconst (v := 1) X dX10_go_267 (by decide) ?_
                    refine v_goto (tgt := 272) X dX10_go_268 (by decide) ?_
                    exact v_loc [1, 2, 0] rfl (t_at (P := fun (u89 : Bool) m => V K 5 (mkM am hn m) 272 [(0, .ref am), (2, .int (b2i v63)), (4, .int v88)] [.int (b2i u89)]) hd KJ)
          · have hd := Tcnd_f q hd
            refine v_aload_n X dX10_go_137 1 0 rfl rfl ?_
            refine v_iload_n X dX10_go_138 0 1 rfl rfl ?_
            refine v_bipush (v := 59) X dX10_go_139 (by decide) ?_
            obtain ⟨u104, m1, hd, hd2⟩ := TM.bind_some hd
            have KJ : V K 5 (mkM am hn m1) 179 [(0, .ref am), (1, .int v19)] [.int u104, .ref am] := by
              clear hd
              have hd := hd2
              refine t_putI X hd rfl fp_X10_131 dX10_go_179 (fun ms hd => ?_)
              refine v_aload_n X dX10_go_182 0 0 rfl rfl ?_
              refine v_iload_n X dX10_go_183 1 1 rfl rfl ?_
              refine t_putI X hd rfl fp_X10_141 dX10_go_184 (fun ms hd => ?_)
              refine v_aload_n X dX10_go_187 0 0 rfl rfl ?_
              refine v_dup X dX10_go_188 rfl ?_
              refine t_getI X hd rfl fl_X10_122 dX10_go_189 (fun v105 hd => ?_)
              refine v_iconst (v := 1) X dX10_go_192 (by decide) ?_
              refine v_iadd X dX10_go_193 ?_
              refine t_putI X hd rfl fp_X10_122 dX10_go_194 (fun ms hd => ?_)
              exact t_vret X hK hd ho dX10_go_197
            clear hd2
            refine v_icmp_eq (tgt := 174) X dX10_go_141 (by decide) (fun q => ?_) (fun q => ?_)
            · have hd := Tite_t q hd
              refine v_iconst (v := 4) X dX10_go_174 (by decide) ?_
              refine v_goto (tgt := 179) X dX10_go_175 (by decide) ?_
              exact v_loc [1, 0] rfl (t_at (P := fun (u104 : Int32) m => V K 5 (mkM am hn m) 179 [(0, .ref am), (1, .int v19)] [.int u104, .ref am]) hd KJ)
            · have hd := Tite_f q hd
              refine v_iload_n X dX10_go_144 0 1 rfl rfl ?_
              refine v_bipush (v := 60) X dX10_go_145 (by decide) ?_
              refine v_icmp_eq (tgt := 174) X dX10_go_147 (by decide) (fun q => ?_) (fun q => ?_)
              · have hd := Tite_t q hd
                refine v_iconst (v := 4) X dX10_go_174 (by decide) ?_
                refine v_goto (tgt := 179) X dX10_go_175 (by decide) ?_
                exact v_loc [1, 0] rfl (t_at (P := fun (u104 : Int32) m => V K 5 (mkM am hn m) 179 [(0, .ref am), (1, .int v19)] [.int u104, .ref am]) hd KJ)
              · have hd := Tite_f q hd
                refine v_iload_n X dX10_go_150 0 1 rfl rfl ?_
                refine v_bipush (v := 61) X dX10_go_151 (by decide) ?_
                refine v_icmp_eq (tgt := 174) X dX10_go_153 (by decide) (fun q => ?_) (fun q => ?_)
                · have hd := Tite_t q hd
                  refine v_iconst (v := 4) X dX10_go_174 (by decide) ?_
                  refine v_goto (tgt := 179) X dX10_go_175 (by decide) ?_
                  exact v_loc [1, 0] rfl (t_at (P := fun (u104 : Int32) m => V K 5 (mkM am hn m) 179 [(0, .ref am), (1, .int v19)] [.int u104, .ref am]) hd KJ)
                · have hd := Tite_f q hd
                  refine v_iload_n X dX10_go_156 0 1 rfl rfl ?_
                  refine v_bipush (v := 62) X dX10_go_157 (by decide) ?_
                  refine v_icmp_eq (tgt := 174) X dX10_go_159 (by decide) (fun q => ?_) (fun q => ?_)
                  · have hd := Tite_t q hd
                    refine v_iconst (v := 4) X dX10_go_174 (by decide) ?_
                    refine v_goto (tgt := 179) X dX10_go_175 (by decide) ?_
                    exact v_loc [1, 0] rfl (t_at (P := fun (u104 : Int32) m => V K 5 (mkM am hn m) 179 [(0, .ref am), (1, .int v19)] [.int u104, .ref am]) hd KJ)
                  · have hd := Tite_f q hd
                    refine v_iload_n X dX10_go_162 0 1 rfl rfl ?_
                    refine v_bipush (v := 40) X dX10_go_163 (by decide) ?_
                    refine v_icmp_eq (tgt := 174) X dX10_go_165 (by decide) (fun q => ?_) (fun q => ?_)
                    · have hd := Tite_t q hd
                      refine v_iconst (v := 4) X dX10_go_174 (by decide) ?_
                      refine v_goto (tgt := 179) X dX10_go_175 (by decide) ?_
                      exact v_loc [1, 0] rfl (t_at (P := fun (u104 : Int32) m => V K 5 (mkM am hn m) 179 [(0, .ref am), (1, .int v19)] [.int u104, .ref am]) hd KJ)
                    · have hd := Tite_f q hd
                      refine v_iload_n X dX10_go_168 0 1 rfl rfl ?_
                      refine v_bipush (v := 41) X dX10_go_169 (by decide) ?_
                      refine v_icmp_ne (tgt := 178) X dX10_go_171 (by decide) (fun q => ?_) (fun q => ?_)
                      · have hd := Tite_f q hd
                        refine v_iconst (v := 1) X dX10_go_178 (by decide) ?_
                        exact v_loc [1, 0] rfl (t_at (P := fun (u104 : Int32) m => V K 5 (mkM am hn m) 179 [(0, .ref am), (1, .int v19)] [.int u104, .ref am]) hd KJ)
                      · have hd := Tite_t q hd
                        refine v_iconst (v := 4) X dX10_go_174 (by decide) ?_
                        refine v_goto (tgt := 179) X dX10_go_175 (by decide) ?_
                        exact v_loc [1, 0] rfl (t_at (P := fun (u104 : Int32) m => V K 5 (mkM am hn m) 179 [(0, .ref am), (1, .int v19)] [.int u104, .ref am]) hd KJ)
      · have hd := Tite_f q hd
        refine v_aload_n X dX10_go_107 0 0 rfl rfl ?_
        refine v_iconst (v := 0) X dX10_go_108 (by decide) ?_
        refine t_putI X hd rfl fp_X10_131 dX10_go_109 (fun ms hd => ?_)
        exact t_vret X hK hd ho dX10_go_112
    · have hd := Tite_f q hd
      refine v_aload_n X dX10_go_71 0 0 rfl rfl ?_
      refine t_getI X hd rfl fl_X10_125 dX10_go_72 (fun v106 hd => ?_)
      refine v_aload_n X dX10_go_75 0 0 rfl rfl ?_
      refine t_getI X hd rfl fl_X10_128 dX10_go_76 (fun v107 hd => ?_)
      refine v_icmp_lt (tgt := 96) X dX10_go_79 (by decide) (fun q => ?_) (fun q => ?_)
      · have hd := Tite_t q hd
        refine v_aload_n X dX10_go_96 0 0 rfl rfl ?_
        refine t_getI X hd rfl fl_X10_122 dX10_go_97 (fun v108 hd => ?_)
        refine v_aload_n X dX10_go_100 0 0 rfl rfl ?_
        refine t_getI X hd rfl fl_X10_119 dX10_go_101 (fun v109 hd => ?_)
        refine v_icmp_lt (tgt := 113) X dX10_go_104 (by decide) (fun q => ?_) (fun q => ?_)
        · have hd := Tite_t q hd
          refine v_aload_n X dX10_go_113 0 0 rfl rfl ?_
          refine t_getA (j := 0) X rfl fl_X10_7 dX10_go_114 ?_
          refine v_aload_n X dX10_go_117 0 0 rfl rfl ?_
          refine t_getI X hd rfl fl_X10_122 dX10_go_118 (fun v110 hd => ?_)
          refine t_iald (j := 0) X hd rfl dX10_go_121 (fun v111 hd => ?_)
          refine v_istore_n (lv2 := [(1, .int v111), (0, .ref am)]) X dX10_go_122 1 rfl (by decide) rfl ?_
          refine v_iload_n X dX10_go_123 0 1 rfl rfl ?_
          refine t_callS X hK hd (ct_X10_isLetter _ am v111) (lw_S q1880 q1881 q120 q1882) dn_X10_isLetter rfl ⟨by decide, by decide⟩ rfl (Nat.le_of_ble_eq_true rfl) dX10_go_124 (fun v112 ms hd => ?_)
          show V K 5 (mkM am hn ms) 127 [(1, .int v111), (0, .ref am)] [.int (b2i v112)]
          refine v_ifZ_ne (tgt := 198) X dX10_go_127 (by decide) (fun q => ?_) (fun q => ?_)
          · have hd := Tcnd_t q hd
            refine v_iload_n X dX10_go_198 0 1 rfl rfl ?_
            refine t_callS X hK hd (ct_X10_isLetter _ am v111) (lw_S q1880 q1881 q120 q1882) dn_X10_isLetter rfl ⟨by decide, by decide⟩ rfl (Nat.le_of_ble_eq_true rfl) dX10_go_199 (fun v113 ms hd => ?_)
            show V K 5 (mkM am hn ms) 202 [(1, .int v111), (0, .ref am)] [.int (b2i v113)]
            refine v_istore_n (lv2 := [(2, .int (b2i v113)), (1, .int v111), (0, .ref am)]) X dX10_go_202 2 rfl (by decide) rfl ?_
            refine v_iconst (v := 1) X dX10_go_203 (by decide) ?_
            refine v_istore_n (lv2 := [(3, .int 1), (2, .int (b2i v113)), (1, .int v111), (0, .ref am)]) X dX10_go_204 3 rfl (by decide) rfl ?_
            refine v_aload_n X dX10_go_205 3 0 rfl rfl ?_
            refine v_lconst (v := 0) X dX10_go_206 (by decide) ?_
            refine t_putL X hd rfl fp_X10_144 dX10_go_207 (fun ms hd => ?_)
            refine v_aload_n X dX10_go_210 3 0 rfl rfl ?_
            refine v_iconst (v := 0) X dX10_go_211 (by decide) ?_
            refine t_putI X hd rfl fp_X10_148 dX10_go_212 (fun ms hd => ?_)
            obtain ⟨e117, m1, hd, hd2⟩ := TM.bind_some hd
            have KX : V K 5 (mkM am hn m1) 350 [(0, .ref am), (2, .int (b2i v113)), (3, .int (b2i e117))] [] := by
              clear hd
              have hd := hd2
              refine v_aload_n X dX10_go_350 0 0 rfl rfl ?_
              refine v_iload_n X dX10_go_351 2 3 rfl rfl ?_
              obtain ⟨u150, m1, hd, hd2⟩ := TM.bind_some hd
              have KJ : V K 5 (mkM am hn m1) 390 [] [.int u150, .ref am] := by
                clear hd
                have hd := hd2
                refine t_putI X hd rfl fp_X10_131 dX10_go_390 (fun ms hd => ?_)
                exact t_vret X hK hd ho dX10_go_393
              clear hd2
              refine v_ifZ_eq (tgt := 377) X dX10_go_352 (by decide) (fun q => ?_) (fun q => ?_)
              · have hd := Tcnd_f q hd
                refine v_iconst (v := 1) X dX10_go_377 (by decide) ?_
                refine v_goto (tgt := 390) X dX10_go_378 (by decide) ?_
                exact v_loc [] rfl (t_at (P := fun (u150 : Int32) m => V K 5 (mkM am hn m) 390 [] [.int u150, .ref am]) hd KJ)
              · have hd := Tcnd_t q hd
                refine v_aload_n X dX10_go_355 0 0 rfl rfl ?_
                refine t_getI X hd rfl fl_X10_122 dX10_go_356 (fun v151 hd => ?_)
                refine v_aload_n X dX10_go_359 0 0 rfl rfl ?_
                refine t_getI X hd rfl fl_X10_125 dX10_go_360 (fun v152 hd => ?_)
                refine v_isub X dX10_go_363 ?_
                refine v_iload_n X dX10_go_364 1 2 rfl rfl ?_
                obtain ⟨u153, m1, hd, hd2⟩ := TM.bind_some hd
                have KJ : V K 5 (mkM am hn m1) 374 [(2, .int (b2i v113))] [.int u153, .int (v151 - v152), .ref am] := by
                  clear hd
                  have hd := hd2
                  refine v_icmp_le (tgt := 381) X dX10_go_374 (by decide) (fun q => ?_) (fun q => ?_)
                  · have hd := Tite_t q hd
                    refine v_iload_n X dX10_go_381 0 2 rfl rfl ?_
                    refine v_ifZ_eq (tgt := 389) X dX10_go_382 (by decide) (fun q => ?_) (fun q => ?_)
                    · have hd := Tcnd_f q hd
                      refine v_iconst (v := 3) X dX10_go_389 (by decide) ?_
                      exact v_loc [] rfl (t_at (P := fun (u150 : Int32) m => V K 5 (mkM am hn m) 390 [] [.int u150, .ref am]) hd KJ)
                    · have hd := Tcnd_t q hd
                      refine v_iconst (v := 2) X dX10_go_385 (by decide) ?_
                      refine v_goto (tgt := 390) X dX10_go_386 (by decide) ?_
                      exact v_loc [] rfl (t_at (P := fun (u150 : Int32) m => V K 5 (mkM am hn m) 390 [] [.int u150, .ref am]) hd KJ)
                  · have hd := Tite_f q hd
                    refine v_iconst (v := 1) X dX10_go_377 (by decide) ?_
                    refine v_goto (tgt := 390) X dX10_go_378 (by decide) ?_
                    exact v_loc [] rfl (t_at (P := fun (u150 : Int32) m => V K 5 (mkM am hn m) 390 [] [.int u150, .ref am]) hd KJ)
                clear hd2
                refine v_ifZ_eq (tgt := 373) X dX10_go_365 (by decide) (fun q => ?_) (fun q => ?_)
                · have hd := Tcnd_f q hd
                  refine v_iconst (v := 2) X dX10_go_373 (by decide) ?_
                  exact v_loc [1] rfl (t_at (P := fun (u153 : Int32) m => V K 5 (mkM am hn m) 374 [(2, .int (b2i v113))] [.int u153, .int (v151 - v152), .ref am]) hd KJ)
                · have hd := Tcnd_t q hd
                  refine v_bipush (v := 10) X dX10_go_368 (by decide) ?_
                  refine v_goto (tgt := 374) X dX10_go_370 (by decide) ?_
                  exact v_loc [1] rfl (t_at (P := fun (u153 : Int32) m => V K 5 (mkM am hn m) 374 [(2, .int (b2i v113))] [.int u153, .int (v151 - v152), .ref am]) hd KJ)
            clear hd2
            refine v_loc [3, 1, 0] rfl ?_
            refine Tloop_ind hd (fun (s114 : Bool) m => V K 5 (mkM am hn m) 215 [(0, .ref am), (2, .int (b2i v113)), (3, .int (b2i s114))] []) (fun s114 ms x m2 hd ih115 ho116 => ?_)
            refine v_aload_n X dX10_go_215 0 0 rfl rfl ?_
            refine v_aload_n X dX10_go_216 0 0 rfl rfl ?_
            refine t_getI X hd rfl fl_X10_122 dX10_go_217 (fun v118 hd => ?_)
            refine t_callV X hK hd (ct_X10_byteAt _ am v118) (lw_V q1886 q1888 qs40 q120 q1889) ⟨rfl, dn_X10_byteAt⟩ rfl ⟨by decide, by decide⟩ rfl (Nat.le_of_ble_eq_true rfl) dX10_go_220 (fun v119 ms hd => ?_)
            show V K 5 (mkM am hn ms) 223 [(0, .ref am), (2, .int (b2i v113)), (3, .int (b2i s114))] [.int v119]
            refine t_callS X hK hd (ct_X10_isLetter _ am v119) (lw_S q1880 q1881 q120 q1882) dn_X10_isLetter rfl ⟨by decide, by decide⟩ rfl (Nat.le_of_ble_eq_true rfl) dX10_go_223 (fun v120 ms hd => ?_)
            show V K 5 (mkM am hn ms) 226 [(0, .ref am), (2, .int (b2i v113)), (3, .int (b2i s114))] [.int (b2i v120)]
            refine v_ifZ_ne (tgt := 243) X dX10_go_226 (by decide) (fun q => ?_) (fun q => ?_)
            · have hd := Tcnd_t q hd
              refine v_aload_n X dX10_go_243 0 0 rfl rfl ?_
              refine t_getA (j := 0) X rfl fl_X10_7 dX10_go_244 ?_
              refine v_aload_n X dX10_go_247 0 0 rfl rfl ?_
              refine t_getI X hd rfl fl_X10_122 dX10_go_248 (fun v121 hd => ?_)
              refine t_iald (j := 0) X hd rfl dX10_go_251 (fun v122 hd => ?_)
              refine v_istore (lv2 := [(4, .int v122), (0, .ref am), (2, .int (b2i v113)), (3, .int (b2i s114))]) X dX10_go_252 (by decide) rfl ?_
              refine v_iload_n X dX10_go_254 3 3 rfl rfl ?_
              obtain ⟨u123, m1, hd, hd2⟩ := TM.bind_some hd
              have KJ : V K 5 (mkM am hn m1) 272 [(0, .ref am), (2, .int (b2i v113)), (4, .int v122)] [.int (b2i u123)] := by
                clear hd
                have hd := hd2
                refine v_istore_n (lv2 := [(3, .int (b2i u123)), (0, .ref am), (2, .int (b2i v113)), (4, .int v122)]) X dX10_go_272 3 rfl (by decide) rfl ?_
                refine v_aload_n X dX10_go_273 1 0 rfl rfl ?_
                refine t_getI X hd rfl fl_X10_122 dX10_go_274 (fun v124 hd => ?_)
                refine v_aload_n X dX10_go_277 1 0 rfl rfl ?_
                refine t_getI X hd rfl fl_X10_125 dX10_go_278 (fun v125 hd => ?_)
                refine v_isub X dX10_go_281 ?_
                refine v_bipush (v := 10) X dX10_go_282 (by decide) ?_
                obtain ⟨u126, m1, hd, hd2⟩ := TM.bind_some hd
                have KJ : V K 5 (mkM am hn m1) 307 [(0, .ref am), (2, .int (b2i v113)), (3, .int (b2i u123)), (4, .int v122)] [] := by
                  clear hd
                  have hd := hd2
                  refine v_aload_n X dX10_go_307 0 0 rfl rfl ?_
                  refine t_getI X hd rfl fl_X10_122 dX10_go_308 (fun v127 hd => ?_)
                  refine v_aload_n X dX10_go_311 0 0 rfl rfl ?_
                  refine t_getI X hd rfl fl_X10_125 dX10_go_312 (fun v128 hd => ?_)
                  refine v_isub X dX10_go_315 ?_
                  refine v_iconst (v := 2) X dX10_go_316 (by decide) ?_
                  obtain ⟨u129, m1, hd, hd2⟩ := TM.bind_some hd
                  have KJ : V K 5 (mkM am hn m1) 337 [(0, .ref am), (2, .int (b2i v113)), (3, .int (b2i u123))] [] := by
                    clear hd
                    have hd := hd2
                    refine v_aload_n X dX10_go_337 0 0 rfl rfl ?_
                    refine v_dup X dX10_go_338 rfl ?_
                    refine t_getI X hd rfl fl_X10_122 dX10_go_339 (fun v130 hd => ?_)
                    refine v_iconst (v := 1) X dX10_go_342 (by decide) ?_
                    refine v_iadd X dX10_go_343 ?_
                    refine t_putI X hd rfl fp_X10_122 dX10_go_344 (fun ms hd => ?_)
                    refine v_goto (tgt := 215) X dX10_go_347 (by decide) ?_
                    exact v_loc [0, 1, 2] rfl (Tlp_in (P := fun (s114 : Bool) m => V K 5 (mkM am hn m) 215 [(0, .ref am), (2, .int (b2i v113)), (3, .int (b2i s114))] []) hd ih115)
                  clear hd2
                  refine v_icmp_ge (tgt := 337) X dX10_go_317 (by decide) (fun q => ?_) (fun q => ?_)
                  · have hd := Tite_t q hd
                    exact v_loc [0, 1, 2] rfl (t_at (P := fun (u129 : Unit) m => V K 5 (mkM am hn m) 337 [(0, .ref am), (2, .int (b2i v113)), (3, .int (b2i u123))] []) hd KJ)
                  · have hd := Tite_f q hd
                    refine v_aload_n X dX10_go_320 0 0 rfl rfl ?_
                    refine v_bipush (v := 10) X dX10_go_321 (by decide) ?_
                    refine v_aload_n X dX10_go_323 0 0 rfl rfl ?_
                    refine t_getI X hd rfl fl_X10_148 dX10_go_324 (fun v131 hd => ?_)
                    refine v_imul X dX10_go_327 ?_
                    refine v_iload X dX10_go_328 3 rfl ?_
                    refine v_iadd X dX10_go_330 ?_
                    refine v_bipush (v := 48) X dX10_go_331 (by decide) ?_
                    refine v_isub X dX10_go_333 ?_
                    refine t_putI X hd rfl fp_X10_148 dX10_go_334 (fun ms hd => ?_)
                    exact v_loc [0, 1, 2] rfl (t_at (P := fun (u129 : Unit) m => V K 5 (mkM am hn m) 337 [(0, .ref am), (2, .int (b2i v113)), (3, .int (b2i u123))] []) hd KJ)
                clear hd2
                refine v_icmp_ge (tgt := 307) X dX10_go_284 (by decide) (fun q => ?_) (fun q => ?_)
                · have hd := Tite_t q hd
                  exact v_loc [1, 2, 0, 3] rfl (t_at (P := fun (u126 : Unit) m => V K 5 (mkM am hn m) 307 [(0, .ref am), (2, .int (b2i v113)), (3, .int (b2i u123)), (4, .int v122)] []) hd KJ)
                · have hd := Tite_f q hd
                  refine v_aload_n X dX10_go_287 1 0 rfl rfl ?_
                  refine v_ldc2 X q1890 dX10_go_288 ?_
                  refine v_aload_n X dX10_go_291 1 0 rfl rfl ?_
                  refine t_getL X hd rfl fl_X10_144 dX10_go_292 (fun v132 hd => ?_)
                  refine v_lmul X dX10_go_295 ?_
                  refine v_iload X dX10_go_296 3 rfl ?_
                  refine v_i2l X dX10_go_298 ?_
                  refine v_ladd X dX10_go_299 ?_
                  refine v_ldc2 X q1891 dX10_go_300 ?_
                  refine v_lsub X dX10_go_303 ?_
                  refine t_putL X hd rfl fp_X10_144 dX10_go_304 (fun ms hd => ?_)
                  exact v_loc [1, 2, 0, 3] rfl (t_at (P := fun (u126 : Unit) m => V K 5 (mkM am hn m) 307 [(0, .ref am), (2, .int (b2i v113)), (3, .int (b2i u123)), (4, .int v122)] []) hd KJ)
              clear hd2
              refine v_ifZ_eq (tgt := 271) X dX10_go_255 (by decide) (fun q => ?_) (fun q => ?_)
              · have hd := Tcnd_f q hd
                refine v_iconst (v := 0) X dX10_go_271 (by decide) ?_
                exact v_loc [1, 2, 0] rfl (t_at (P := fun (u123 : Bool) m => V K 5 (mkM am hn m) 272 [(0, .ref am), (2, .int (b2i v113)), (4, .int v122)] [.int (b2i u123)]) hd KJ)
              · have hd := Tcnd_t q hd
                refine v_iload X dX10_go_258 0 rfl ?_
                refine t_callS X hK hd (ct_X10_isLetter _ am v122) (lw_S q1880 q1881 q120 q1882) dn_X10_isLetter rfl ⟨by decide, by decide⟩ rfl (Nat.le_of_ble_eq_true rfl) dX10_go_260 (fun v133 ms hd => ?_)
                show V K 5 (mkM am hn ms) 263 [(4, .int v122), (0, .ref am), (2, .int (b2i v113)), (3, .int (b2i s114))] [.int (b2i v133)]
                refine v_iload_n X dX10_go_263 2 2 rfl rfl ?_
                refine v_icmp_ne (tgt := 271) X dX10_go_264 (by decide) (fun q => ?_) (fun q => ?_)
                · have hd := Tite_f q hd
                  refine v_iconst (v := 0) X dX10_go_271 (by decide) ?_
                  exact v_loc [1, 2, 0] rfl (t_at (P := fun (u123 : Bool) m => V K 5 (mkM am hn m) 272 [(0, .ref am), (2, .int (b2i v113)), (4, .int v122)] [.int (b2i u123)]) hd KJ)
                · have hd := Tite_t q hd
                  refine v_iconst (v := 1) X dX10_go_267 (by decide) ?_
                  refine v_goto (tgt := 272) X dX10_go_268 (by decide) ?_
                  exact v_loc [1, 2, 0] rfl (t_at (P := fun (u123 : Bool) m => V K 5 (mkM am hn m) 272 [(0, .ref am), (2, .int (b2i v113)), (4, .int v122)] [.int (b2i u123)]) hd KJ)
            · have hd := Tcnd_f q hd
              refine v_aload_n X dX10_go_229 0 0 rfl rfl ?_
              refine v_aload_n X dX10_go_230 0 0 rfl rfl ?_
              refine t_getI X hd rfl fl_X10_122 dX10_go_231 (fun v134 hd => ?_)
              refine t_callV X hK hd (ct_X10_byteAt _ am v134) (lw_V q1886 q1888 qs40 q120 q1889) ⟨rfl, dn_X10_byteAt⟩ rfl ⟨by decide, by decide⟩ rfl (Nat.le_of_ble_eq_true rfl) dX10_go_234 (fun v135 ms hd => ?_)
              show V K 5 (mkM am hn ms) 237 [(0, .ref am), (2, .int (b2i v113)), (3, .int (b2i s114))] [.int v135]
              refine t_callS X hK hd (ct_X10_isDigit _ am v135) (lw_S q1883 q1884 q120 q1885) dn_X10_isDigit rfl ⟨by decide, by decide⟩ rfl (Nat.le_of_ble_eq_true rfl) dX10_go_237 (fun v136 ms hd => ?_)
              show V K 5 (mkM am hn ms) 240 [(0, .ref am), (2, .int (b2i v113)), (3, .int (b2i s114))] [.int (b2i v136)]
              refine v_ifZ_eq (tgt := 350) X dX10_go_240 (by decide) (fun q => ?_) (fun q => ?_)
              · have hd := Tcnd_f q hd
                exact v_loc [0, 1, 2] rfl (t_at (P := fun (e117 : Bool) m => V K 5 (mkM am hn m) 350 [(0, .ref am), (2, .int (b2i v113)), (3, .int (b2i e117))] []) (Tlp_out hd ho116) KX)
              · have hd := Tcnd_t q hd
                refine v_aload_n X dX10_go_243 0 0 rfl rfl ?_
                refine t_getA (j := 0) X rfl fl_X10_7 dX10_go_244 ?_
                refine v_aload_n X dX10_go_247 0 0 rfl rfl ?_
                refine t_getI X hd rfl fl_X10_122 dX10_go_248 (fun v137 hd => ?_)
                refine t_iald (j := 0) X hd rfl dX10_go_251 (fun v138 hd => ?_)
                refine v_istore (lv2 := [(4, .int v138), (0, .ref am), (2, .int (b2i v113)), (3, .int (b2i s114))]) X dX10_go_252 (by decide) rfl ?_
                refine v_iload_n X dX10_go_254 3 3 rfl rfl ?_
                obtain ⟨u139, m1, hd, hd2⟩ := TM.bind_some hd
                have KJ : V K 5 (mkM am hn m1) 272 [(0, .ref am), (2, .int (b2i v113)), (4, .int v138)] [.int (b2i u139)] := by
                  clear hd
                  have hd := hd2
                  refine v_istore_n (lv2 := [(3, .int (b2i u139)), (0, .ref am), (2, .int (b2i v113)), (4, .int v138)]) X dX10_go_272 3 rfl (by decide) rfl ?_
                  refine v_aload_n X dX10_go_273 1 0 rfl rfl ?_
                  refine t_getI X hd rfl fl_X10_122 dX10_go_274 (fun v140 hd => ?_)
                  refine v_aload_n X dX10_go_277 1 0 rfl rfl ?_
                  refine t_getI X hd rfl fl_X10_125 dX10_go_278 (fun v141 hd => ?_)
                  refine v_isub X dX10_go_281 ?_
                  refine v_bipush (v := 10) X dX10_go_282 (by decide) ?_
                  obtain ⟨u142, m1, hd, hd2⟩ := TM.bind_some hd
                  have KJ : V K 5 (mkM am hn m1) 307 [(0, .ref am), (2, .int (b2i v113)), (3, .int (b2i u139)), (4, .int v138)] [] := by
                    clear hd
                    have hd := hd2
                    refine v_aload_n X dX10_go_307 0 0 rfl rfl ?_
                    refine t_getI X hd rfl fl_X10_122 dX10_go_308 (fun v143 hd => ?_)
                    refine v_aload_n X dX10_go_311 0 0 rfl rfl ?_
                    refine t_getI X hd rfl fl_X10_125 dX10_go_312 (fun v144 hd => ?_)
                    refine v_isub X dX10_go_315 ?_
                    refine v_iconst (v := 2) X dX10_go_316 (by decide) ?_
                    obtain ⟨u145, m1, hd, hd2⟩ := TM.bind_some hd
                    have KJ : V K 5 (mkM am hn m1) 337 [(0, .ref am), (2, .int (b2i v113)), (3, .int (b2i u139))] [] := by
                      clear hd
                      have hd := hd2
                      refine v_aload_n X dX10_go_337 0 0 rfl rfl ?_
                      refine v_dup X dX10_go_338 rfl ?_
                      refine t_getI X hd rfl fl_X10_122 dX10_go_339 (fun v146 hd => ?_)
                      refine v_iconst (v := 1) X dX10_go_342 (by decide) ?_
                      refine v_iadd X dX10_go_343 ?_
                      refine t_putI X hd rfl fp_X10_122 dX10_go_344 (fun ms hd => ?_)
                      refine v_goto (tgt := 215) X dX10_go_347 (by decide) ?_
                      exact v_loc [0, 1, 2] rfl (Tlp_in (P := fun (s114 : Bool) m => V K 5 (mkM am hn m) 215 [(0, .ref am), (2, .int (b2i v113)), (3, .int (b2i s114))] []) hd ih115)
                    clear hd2
                    refine v_icmp_ge (tgt := 337) X dX10_go_317 (by decide) (fun q => ?_) (fun q => ?_)
                    · have hd := Tite_t q hd
                      exact v_loc [0, 1, 2] rfl (t_at (P := fun (u145 : Unit) m => V K 5 (mkM am hn m) 337 [(0, .ref am), (2, .int (b2i v113)), (3, .int (b2i u139))] []) hd KJ)
                    · have hd := Tite_f q hd
                      refine v_aload_n X dX10_go_320 0 0 rfl rfl ?_
                      refine v_bipush (v := 10) X dX10_go_321 (by decide) ?_
                      refine v_aload_n X dX10_go_323 0 0 rfl rfl ?_
                      refine t_getI X hd rfl fl_X10_148 dX10_go_324 (fun v147 hd => ?_)
                      refine v_imul X dX10_go_327 ?_
                      refine v_iload X dX10_go_328 3 rfl ?_
                      refine v_iadd X dX10_go_330 ?_
                      refine v_bipush (v := 48) X dX10_go_331 (by decide) ?_
                      refine v_isub X dX10_go_333 ?_
                      refine t_putI X hd rfl fp_X10_148 dX10_go_334 (fun ms hd => ?_)
                      exact v_loc [0, 1, 2] rfl (t_at (P := fun (u145 : Unit) m => V K 5 (mkM am hn m) 337 [(0, .ref am), (2, .int (b2i v113)), (3, .int (b2i u139))] []) hd KJ)
                  clear hd2
                  refine v_icmp_ge (tgt := 307) X dX10_go_284 (by decide) (fun q => ?_) (fun q => ?_)
                  · have hd := Tite_t q hd
                    exact v_loc [1, 2, 0, 3] rfl (t_at (P := fun (u142 : Unit) m => V K 5 (mkM am hn m) 307 [(0, .ref am), (2, .int (b2i v113)), (3, .int (b2i u139)), (4, .int v138)] []) hd KJ)
                  · have hd := Tite_f q hd
                    refine v_aload_n X dX10_go_287 1 0 rfl rfl ?_
                    refine v_ldc2 X q1890 dX10_go_288 ?_
                    refine v_aload_n X dX10_go_291 1 0 rfl rfl ?_
                    refine t_getL X hd rfl fl_X10_144 dX10_go_292 (fun v148 hd => ?_)
                    refine v_lmul X dX10_go_295 ?_
                    refine v_iload X dX10_go_296 3 rfl ?_
                    refine v_i2l X dX10_go_298 ?_
                    refine v_ladd X dX10_go_299 ?_
                    refine v_ldc2 X q1891 dX10_go_300 ?_
                    refine v_lsub X dX10_go_303 ?_
                    refine t_putL X hd rfl fp_X10_144 dX10_go_304 (fun ms hd => ?_)
                    exact v_loc [1, 2, 0, 3] rfl (t_at (P := fun (u142 : Unit) m => V K 5 (mkM am hn m) 307 [(0, .ref am), (2, .int (b2i v113)), (3, .int (b2i u139)), (4, .int v138)] []) hd KJ)
                clear hd2
                refine v_ifZ_eq (tgt := 271) X dX10_go_255 (by decide) (fun q => ?_) (fun q => ?_)
                · have hd := Tcnd_f q hd
                  refine v_iconst (v := 0) X dX10_go_271 (by decide) ?_
                  exact v_loc [1, 2, 0] rfl (t_at (P := fun (u139 : Bool) m => V K 5 (mkM am hn m) 272 [(0, .ref am), (2, .int (b2i v113)), (4, .int v138)] [.int (b2i u139)]) hd KJ)
                · have hd := Tcnd_t q hd
                  refine v_iload X dX10_go_258 0 rfl ?_
                  refine t_callS X hK hd (ct_X10_isLetter _ am v138) (lw_S q1880 q1881 q120 q1882) dn_X10_isLetter rfl ⟨by decide, by decide⟩ rfl (Nat.le_of_ble_eq_true rfl) dX10_go_260 (fun v149 ms hd => ?_)
                  show V K 5 (mkM am hn ms) 263 [(4, .int v138), (0, .ref am), (2, .int (b2i v113)), (3, .int (b2i s114))] [.int (b2i v149)]
                  refine v_iload_n X dX10_go_263 2 2 rfl rfl ?_
                  refine v_icmp_ne (tgt := 271) X dX10_go_264 (by decide) (fun q => ?_) (fun q => ?_)
                  · have hd := Tite_f q hd
                    refine v_iconst (v := 0) X dX10_go_271 (by decide) ?_
                    exact v_loc [1, 2, 0] rfl (t_at (P := fun (u139 : Bool) m => V K 5 (mkM am hn m) 272 [(0, .ref am), (2, .int (b2i v113)), (4, .int v138)] [.int (b2i u139)]) hd KJ)
                  · have hd := Tite_t q hd
                    refine v_iconst (v := 1) X dX10_go_267 (by decide) ?_
                    refine v_goto (tgt := 272) X dX10_go_268 (by decide) ?_
                    exact v_loc [1, 2, 0] rfl (t_at (P := fun (u139 : Bool) m => V K 5 (mkM am hn m) 272 [(0, .ref am), (2, .int (b2i v113)), (4, .int v138)] [.int (b2i u139)]) hd KJ)
          · have hd := Tcnd_f q hd
            refine v_iload_n X dX10_go_130 0 1 rfl rfl ?_
            refine t_callS X hK hd (ct_X10_isDigit _ am v111) (lw_S q1883 q1884 q120 q1885) dn_X10_isDigit rfl ⟨by decide, by decide⟩ rfl (Nat.le_of_ble_eq_true rfl) dX10_go_131 (fun v154 ms hd => ?_)
            show V K 5 (mkM am hn ms) 134 [(1, .int v111), (0, .ref am)] [.int (b2i v154)]
            refine v_ifZ_ne (tgt := 198) X dX10_go_134 (by decide) (fun q => ?_) (fun q => ?_)
            · have hd := Tcnd_t q hd
              refine v_iload_n X dX10_go_198 0 1 rfl rfl ?_
              refine t_callS X hK hd (ct_X10_isLetter _ am v111) (lw_S q1880 q1881 q120 q1882) dn_X10_isLetter rfl ⟨by decide, by decide⟩ rfl (Nat.le_of_ble_eq_true rfl) dX10_go_199 (fun v155 ms hd => ?_)
              show V K 5 (mkM am hn ms) 202 [(1, .int v111), (0, .ref am)] [.int (b2i v155)]
              refine v_istore_n (lv2 := [(2, .int (b2i v155)), (1, .int v111), (0, .ref am)]) X dX10_go_202 2 rfl (by decide) rfl ?_
              refine v_iconst (v := 1) X dX10_go_203 (by decide) ?_
              refine v_istore_n (lv2 := [(3, .int 1), (2, .int (b2i v155)), (1, .int v111), (0, .ref am)]) X dX10_go_204 3 rfl (by decide) rfl ?_
              refine v_aload_n X dX10_go_205 3 0 rfl rfl ?_
              refine v_lconst (v := 0) X dX10_go_206 (by decide) ?_
              refine t_putL X hd rfl fp_X10_144 dX10_go_207 (fun ms hd => ?_)
              refine v_aload_n X dX10_go_210 3 0 rfl rfl ?_
              refine v_iconst (v := 0) X dX10_go_211 (by decide) ?_
              refine t_putI X hd rfl fp_X10_148 dX10_go_212 (fun ms hd => ?_)
              obtain ⟨e159, m1, hd, hd2⟩ := TM.bind_some hd
              have KX : V K 5 (mkM am hn m1) 350 [(0, .ref am), (2, .int (b2i v155)), (3, .int (b2i e159))] [] := by
                clear hd
                have hd := hd2
                refine v_aload_n X dX10_go_350 0 0 rfl rfl ?_
                refine v_iload_n X dX10_go_351 2 3 rfl rfl ?_
                obtain ⟨u192, m1, hd, hd2⟩ := TM.bind_some hd
                have KJ : V K 5 (mkM am hn m1) 390 [] [.int u192, .ref am] := by
                  clear hd
                  have hd := hd2
                  refine t_putI X hd rfl fp_X10_131 dX10_go_390 (fun ms hd => ?_)
                  exact t_vret X hK hd ho dX10_go_393
                clear hd2
                refine v_ifZ_eq (tgt := 377) X dX10_go_352 (by decide) (fun q => ?_) (fun q => ?_)
                · have hd := Tcnd_f q hd
                  refine v_iconst (v := 1) X dX10_go_377 (by decide) ?_
                  refine v_goto (tgt := 390) X dX10_go_378 (by decide) ?_
                  exact v_loc [] rfl (t_at (P := fun (u192 : Int32) m => V K 5 (mkM am hn m) 390 [] [.int u192, .ref am]) hd KJ)
                · have hd := Tcnd_t q hd
                  refine v_aload_n X dX10_go_355 0 0 rfl rfl ?_
                  refine t_getI X hd rfl fl_X10_122 dX10_go_356 (fun v193 hd => ?_)
                  refine v_aload_n X dX10_go_359 0 0 rfl rfl ?_
                  refine t_getI X hd rfl fl_X10_125 dX10_go_360 (fun v194 hd => ?_)
                  refine v_isub X dX10_go_363 ?_
                  refine v_iload_n X dX10_go_364 1 2 rfl rfl ?_
                  obtain ⟨u195, m1, hd, hd2⟩ := TM.bind_some hd
                  have KJ : V K 5 (mkM am hn m1) 374 [(2, .int (b2i v155))] [.int u195, .int (v193 - v194), .ref am] := by
                    clear hd
                    have hd := hd2
                    refine v_icmp_le (tgt := 381) X dX10_go_374 (by decide) (fun q => ?_) (fun q => ?_)
                    · have hd := Tite_t q hd
                      refine v_iload_n X dX10_go_381 0 2 rfl rfl ?_
                      refine v_ifZ_eq (tgt := 389) X dX10_go_382 (by decide) (fun q => ?_) (fun q => ?_)
                      · have hd := Tcnd_f q hd
                        refine v_iconst (v := 3) X dX10_go_389 (by decide) ?_
                        exact v_loc [] rfl (t_at (P := fun (u192 : Int32) m => V K 5 (mkM am hn m) 390 [] [.int u192, .ref am]) hd KJ)
                      · have hd := Tcnd_t q hd
                        refine v_iconst (v := 2) X dX10_go_385 (by decide) ?_
                        refine v_goto (tgt := 390) X dX10_go_386 (by decide) ?_
                        exact v_loc [] rfl (t_at (P := fun (u192 : Int32) m => V K 5 (mkM am hn m) 390 [] [.int u192, .ref am]) hd KJ)
                    · have hd := Tite_f q hd
                      refine v_iconst (v := 1) X dX10_go_377 (by decide) ?_
                      refine v_goto (tgt := 390) X dX10_go_378 (by decide) ?_
                      exact v_loc [] rfl (t_at (P := fun (u192 : Int32) m => V K 5 (mkM am hn m) 390 [] [.int u192, .ref am]) hd KJ)
                  clear hd2
                  refine v_ifZ_eq (tgt := 373) X dX10_go_365 (by decide) (fun q => ?_) (fun q => ?_)
                  · have hd := Tcnd_f q hd
                    refine v_iconst (v := 2) X dX10_go_373 (by decide) ?_
                    exact v_loc [1] rfl (t_at (P := fun (u195 : Int32) m => V K 5 (mkM am hn m) 374 [(2, .int (b2i v155))] [.int u195, .int (v193 - v194), .ref am]) hd KJ)
                  · have hd := Tcnd_t q hd
                    refine v_bipush (v := 10) X dX10_go_368 (by decide) ?_
                    refine v_goto (tgt := 374) X dX10_go_370 (by decide) ?_
                    exact v_loc [1] rfl (t_at (P := fun (u195 : Int32) m => V K 5 (mkM am hn m) 374 [(2, .int (b2i v155))] [.int u195, .int (v193 - v194), .ref am]) hd KJ)
              clear hd2
              refine v_loc [3, 1, 0] rfl ?_
              refine Tloop_ind hd (fun (s156 : Bool) m => V K 5 (mkM am hn m) 215 [(0, .ref am), (2, .int (b2i v155)), (3, .int (b2i s156))] []) (fun s156 ms x m2 hd ih157 ho158 => ?_)
              refine v_aload_n X dX10_go_215 0 0 rfl rfl ?_
              refine v_aload_n X dX10_go_216 0 0 rfl rfl ?_
              refine t_getI X hd rfl fl_X10_122 dX10_go_217 (fun v160 hd => ?_)
              refine t_callV X hK hd (ct_X10_byteAt _ am v160) (lw_V q1886 q1888 qs40 q120 q1889) ⟨rfl, dn_X10_byteAt⟩ rfl ⟨by decide, by decide⟩ rfl (Nat.le_of_ble_eq_true rfl) dX10_go_220 (fun v161 ms hd => ?_)
              show V K 5 (mkM am hn ms) 223 [(0, .ref am), (2, .int (b2i v155)), (3, .int (b2i s156))] [.int v161]
              refine t_callS X hK hd (ct_X10_isLetter _ am v161) (lw_S q1880 q1881 q120 q1882) dn_X10_isLetter rfl ⟨by decide, by decide⟩ rfl (Nat.le_of_ble_eq_true rfl) dX10_go_223 (fun v162 ms hd => ?_)
              show V K 5 (mkM am hn ms) 226 [(0, .ref am), (2, .int (b2i v155)), (3, .int (b2i s156))] [.int (b2i v162)]
              refine v_ifZ_ne (tgt := 243) X dX10_go_226 (by decide) (fun q => ?_) (fun q => ?_)
              · have hd := Tcnd_t q hd
                refine v_aload_n X dX10_go_243 0 0 rfl rfl ?_
                refine t_getA (j := 0) X rfl fl_X10_7 dX10_go_244 ?_
                refine v_aload_n X dX10_go_247 0 0 rfl rfl ?_
                refine t_getI X hd rfl fl_X10_122 dX10_go_248 (fun v163 hd => ?_)
                refine t_iald (j := 0) X hd rfl dX10_go_251 (fun v164 hd => ?_)
                refine v_istore (lv2 := [(4, .int v164), (0, .ref am), (2, .int (b2i v155)), (3, .int (b2i s156))]) X dX10_go_252 (by decide) rfl ?_
                refine v_iload_n X dX10_go_254 3 3 rfl rfl ?_
                obtain ⟨u165, m1, hd, hd2⟩ := TM.bind_some hd
                have KJ : V K 5 (mkM am hn m1) 272 [(0, .ref am), (2, .int (b2i v155)), (4, .int v164)] [.int (b2i u165)] := by
                  clear hd
                  have hd := hd2
                  refine v_istore_n (lv2 := [(3, .int (b2i u165)), (0, .ref am), (2, .int (b2i v155)), (4, .int v164)]) X dX10_go_272 3 rfl (by decide) rfl ?_
                  refine v_aload_n X dX10_go_273 1 0 rfl rfl ?_
                  refine t_getI X hd rfl fl_X10_122 dX10_go_274 (fun v166 hd => ?_)
                  refine v_aload_n X dX10_go_277 1 0 rfl rfl ?_
                  refine t_getI X hd rfl fl_X10_125 dX10_go_278 (fun v167 hd => ?_)
                  refine v_isub X dX10_go_281 ?_
                  refine v_bipush (v := 10) X dX10_go_282 (by decide) ?_
                  obtain ⟨u168, m1, hd, hd2⟩ := TM.bind_some hd
                  have KJ : V K 5 (mkM am hn m1) 307 [(0, .ref am), (2, .int (b2i v155)), (3, .int (b2i u165)), (4, .int v164)] [] := by
                    clear hd
                    have hd := hd2
                    refine v_aload_n X dX10_go_307 0 0 rfl rfl ?_
                    refine t_getI X hd rfl fl_X10_122 dX10_go_308 (fun v169 hd => ?_)
                    refine v_aload_n X dX10_go_311 0 0 rfl rfl ?_
                    refine t_getI X hd rfl fl_X10_125 dX10_go_312 (fun v170 hd => ?_)
                    refine v_isub X dX10_go_315 ?_
                    refine v_iconst (v := 2) X dX10_go_316 (by decide) ?_
                    obtain ⟨u171, m1, hd, hd2⟩ := TM.bind_some hd
                    have KJ : V K 5 (mkM am hn m1) 337 [(0, .ref am), (2, .int (b2i v155)), (3, .int (b2i u165))] [] := by
                      clear hd
                      have hd := hd2
                      refine v_aload_n X dX10_go_337 0 0 rfl rfl ?_
                      refine v_dup X dX10_go_338 rfl ?_
                      refine t_getI X hd rfl fl_X10_122 dX10_go_339 (fun v172 hd => ?_)
                      refine v_iconst (v := 1) X dX10_go_342 (by decide) ?_
                      refine v_iadd X dX10_go_343 ?_
                      refine t_putI X hd rfl fp_X10_122 dX10_go_344 (fun ms hd => ?_)
                      refine v_goto (tgt := 215) X dX10_go_347 (by decide) ?_
                      exact v_loc [0, 1, 2] rfl (Tlp_in (P := fun (s156 : Bool) m => V K 5 (mkM am hn m) 215 [(0, .ref am), (2, .int (b2i v155)), (3, .int (b2i s156))] []) hd ih157)
                    clear hd2
                    refine v_icmp_ge (tgt := 337) X dX10_go_317 (by decide) (fun q => ?_) (fun q => ?_)
                    · have hd := Tite_t q hd
                      exact v_loc [0, 1, 2] rfl (t_at (P := fun (u171 : Unit) m => V K 5 (mkM am hn m) 337 [(0, .ref am), (2, .int (b2i v155)), (3, .int (b2i u165))] []) hd KJ)
                    · have hd := Tite_f q hd
                      refine v_aload_n X dX10_go_320 0 0 rfl rfl ?_
                      refine v_bipush (v := 10) X dX10_go_321 (by decide) ?_
                      refine v_aload_n X dX10_go_323 0 0 rfl rfl ?_
                      refine t_getI X hd rfl fl_X10_148 dX10_go_324 (fun v173 hd => ?_)
                      refine v_imul X dX10_go_327 ?_
                      refine v_iload X dX10_go_328 3 rfl ?_
                      refine v_iadd X dX10_go_330 ?_
                      refine v_bipush (v := 48) X dX10_go_331 (by decide) ?_
                      refine v_isub X dX10_go_333 ?_
                      refine t_putI X hd rfl fp_X10_148 dX10_go_334 (fun ms hd => ?_)
                      exact v_loc [0, 1, 2] rfl (t_at (P := fun (u171 : Unit) m => V K 5 (mkM am hn m) 337 [(0, .ref am), (2, .int (b2i v155)), (3, .int (b2i u165))] []) hd KJ)
                  clear hd2
                  refine v_icmp_ge (tgt := 307) X dX10_go_284 (by decide) (fun q => ?_) (fun q => ?_)
                  · have hd := Tite_t q hd
                    exact v_loc [1, 2, 0, 3] rfl (t_at (P := fun (u168 : Unit) m => V K 5 (mkM am hn m) 307 [(0, .ref am), (2, .int (b2i v155)), (3, .int (b2i u165)), (4, .int v164)] []) hd KJ)
                  · have hd := Tite_f q hd
                    refine v_aload_n X dX10_go_287 1 0 rfl rfl ?_
                    refine v_ldc2 X q1890 dX10_go_288 ?_
                    refine v_aload_n X dX10_go_291 1 0 rfl rfl ?_
                    refine t_getL X hd rfl fl_X10_144 dX10_go_292 (fun v174 hd => ?_)
                    refine v_lmul X dX10_go_295 ?_
                    refine v_iload X dX10_go_296 3 rfl ?_
                    refine v_i2l X dX10_go_298 ?_
                    refine v_ladd X dX10_go_299 ?_
                    refine v_ldc2 X q1891 dX10_go_300 ?_
                    refine v_lsub X dX10_go_303 ?_
                    refine t_putL X hd rfl fp_X10_144 dX10_go_304 (fun ms hd => ?_)
                    exact v_loc [1, 2, 0, 3] rfl (t_at (P := fun (u168 : Unit) m => V K 5 (mkM am hn m) 307 [(0, .ref am), (2, .int (b2i v155)), (3, .int (b2i u165)), (4, .int v164)] []) hd KJ)
                clear hd2
                refine v_ifZ_eq (tgt := 271) X dX10_go_255 (by decide) (fun q => ?_) (fun q => ?_)
                · have hd := Tcnd_f q hd
                  refine v_iconst (v := 0) X dX10_go_271 (by decide) ?_
                  exact v_loc [1, 2, 0] rfl (t_at (P := fun (u165 : Bool) m => V K 5 (mkM am hn m) 272 [(0, .ref am), (2, .int (b2i v155)), (4, .int v164)] [.int (b2i u165)]) hd KJ)
                · have hd := Tcnd_t q hd
                  refine v_iload X dX10_go_258 0 rfl ?_
                  refine t_callS X hK hd (ct_X10_isLetter _ am v164) (lw_S q1880 q1881 q120 q1882) dn_X10_isLetter rfl ⟨by decide, by decide⟩ rfl (Nat.le_of_ble_eq_true rfl) dX10_go_260 (fun v175 ms hd => ?_)
                  show V K 5 (mkM am hn ms) 263 [(4, .int v164), (0, .ref am), (2, .int (b2i v155)), (3, .int (b2i s156))] [.int (b2i v175)]
                  refine v_iload_n X dX10_go_263 2 2 rfl rfl ?_
                  refine v_icmp_ne (tgt := 271) X dX10_go_264 (by decide) (fun q => ?_) (fun q => ?_)
                  · have hd := Tite_f q hd
                    refine v_iconst (v := 0) X dX10_go_271 (by decide) ?_
                    exact v_loc [1, 2, 0] rfl (t_at (P := fun (u165 : Bool) m => V K 5 (mkM am hn m) 272 [(0, .ref am), (2, .int (b2i v155)), (4, .int v164)] [.int (b2i u165)]) hd KJ)
                  · have hd := Tite_t q hd
                    refine v_iconst (v := 1) X dX10_go_267 (by decide) ?_
                    refine v_goto (tgt := 272) X dX10_go_268 (by decide) ?_
                    exact v_loc [1, 2, 0] rfl (t_at (P := fun (u165 : Bool) m => V K 5 (mkM am hn m) 272 [(0, .ref am), (2, .int (b2i v155)), (4, .int v164)] [.int (b2i u165)]) hd KJ)
              · have hd := Tcnd_f q hd
                refine v_aload_n X dX10_go_229 0 0 rfl rfl ?_
                refine v_aload_n X dX10_go_230 0 0 rfl rfl ?_
                refine t_getI X hd rfl fl_X10_122 dX10_go_231 (fun v176 hd => ?_)
                refine t_callV X hK hd (ct_X10_byteAt _ am v176) (lw_V q1886 q1888 qs40 q120 q1889) ⟨rfl, dn_X10_byteAt⟩ rfl ⟨by decide, by decide⟩ rfl (Nat.le_of_ble_eq_true rfl) dX10_go_234 (fun v177 ms hd => ?_)
                show V K 5 (mkM am hn ms) 237 [(0, .ref am), (2, .int (b2i v155)), (3, .int (b2i s156))] [.int v177]
                refine t_callS X hK hd (ct_X10_isDigit _ am v177) (lw_S q1883 q1884 q120 q1885) dn_X10_isDigit rfl ⟨by decide, by decide⟩ rfl (Nat.le_of_ble_eq_true rfl) dX10_go_237 (fun v178 ms hd => ?_)
                show V K 5 (mkM am hn ms) 240 [(0, .ref am), (2, .int (b2i v155)), (3, .int (b2i s156))] [.int (b2i v178)]
                refine v_ifZ_eq (tgt := 350) X dX10_go_240 (by decide) (fun q => ?_) (fun q => ?_)
                · have hd := Tcnd_f q hd
                  exact v_loc [0, 1, 2] rfl (t_at (P := fun (e159 : Bool) m => V K 5 (mkM am hn m) 350 [(0, .ref am), (2, .int (b2i v155)), (3, .int (b2i e159))] []) (Tlp_out hd ho158) KX)
                · have hd := Tcnd_t q hd
                  refine v_aload_n X dX10_go_243 0 0 rfl rfl ?_
                  refine t_getA (j := 0) X rfl fl_X10_7 dX10_go_244 ?_
                  refine v_aload_n X dX10_go_247 0 0 rfl rfl ?_
                  refine t_getI X hd rfl fl_X10_122 dX10_go_248 (fun v179 hd => ?_)
                  refine t_iald (j := 0) X hd rfl dX10_go_251 (fun v180 hd => ?_)
                  refine v_istore (lv2 := [(4, .int v180), (0, .ref am), (2, .int (b2i v155)), (3, .int (b2i s156))]) X dX10_go_252 (by decide) rfl ?_
                  refine v_iload_n X dX10_go_254 3 3 rfl rfl ?_
                  obtain ⟨u181, m1, hd, hd2⟩ := TM.bind_some hd
                  have KJ : V K 5 (mkM am hn m1) 272 [(0, .ref am), (2, .int (b2i v155)), (4, .int v180)] [.int (b2i u181)] := by
                    clear hd
                    have hd := hd2
                    refine v_istore_n (lv2 := [(3, .int (b2i u181)), (0, .ref am), (2, .int (b2i v155)), (4, .int v180)]) X dX10_go_272 3 rfl (by decide) rfl ?_
                    refine v_aload_n X dX10_go_273 1 0 rfl rfl ?_
                    refine t_getI X hd rfl fl_X10_122 dX10_go_274 (fun v182 hd => ?_)
                    refine v_aload_n X dX10_go_277 1 0 rfl rfl ?_
                    refine t_getI X hd rfl fl_X10_125 dX10_go_278 (fun v183 hd => ?_)
                    refine v_isub X dX10_go_281 ?_
                    refine v_bipush (v := 10) X dX10_go_282 (by decide) ?_
                    obtain ⟨u184, m1, hd, hd2⟩ := TM.bind_some hd
                    have KJ : V K 5 (mkM am hn m1) 307 [(0, .ref am), (2, .int (b2i v155)), (3, .int (b2i u181)), (4, .int v180)] [] := by
                      clear hd
                      have hd := hd2
                      refine v_aload_n X dX10_go_307 0 0 rfl rfl ?_
                      refine t_getI X hd rfl fl_X10_122 dX10_go_308 (fun v185 hd => ?_)
                      refine v_aload_n X dX10_go_311 0 0 rfl rfl ?_
                      refine t_getI X hd rfl fl_X10_125 dX10_go_312 (fun v186 hd => ?_)
                      refine v_isub X dX10_go_315 ?_
                      refine v_iconst (v := 2) X dX10_go_316 (by decide) ?_
                      obtain ⟨u187, m1, hd, hd2⟩ := TM.bind_some hd
                      have KJ : V K 5 (mkM am hn m1) 337 [(0, .ref am), (2, .int (b2i v155)), (3, .int (b2i u181))] [] := by
                        clear hd
                        have hd := hd2
                        refine v_aload_n X dX10_go_337 0 0 rfl rfl ?_
                        refine v_dup X dX10_go_338 rfl ?_
                        refine t_getI X hd rfl fl_X10_122 dX10_go_339 (fun v188 hd => ?_)
                        refine v_iconst (v := 1) X dX10_go_342 (by decide) ?_
                        refine v_iadd X dX10_go_343 ?_
                        refine t_putI X hd rfl fp_X10_122 dX10_go_344 (fun ms hd => ?_)
                        refine v_goto (tgt := 215) X dX10_go_347 (by decide) ?_
                        exact v_loc [0, 1, 2] rfl (Tlp_in (P := fun (s156 : Bool) m => V K 5 (mkM am hn m) 215 [(0, .ref am), (2, .int (b2i v155)), (3, .int (b2i s156))] []) hd ih157)
                      clear hd2
                      refine v_icmp_ge (tgt := 337) X dX10_go_317 (by decide) (fun q => ?_) (fun q => ?_)
                      · have hd := Tite_t q hd
                        exact v_loc [0, 1, 2] rfl (t_at (P := fun (u187 : Unit) m => V K 5 (mkM am hn m) 337 [(0, .ref am), (2, .int (b2i v155)), (3, .int (b2i u181))] []) hd KJ)
                      · have hd := Tite_f q hd
                        refine v_aload_n X dX10_go_320 0 0 rfl rfl ?_
                        refine v_bipush (v := 10) X dX10_go_321 (by decide) ?_
                        refine v_aload_n X dX10_go_323 0 0 rfl rfl ?_
                        refine t_getI X hd rfl fl_X10_148 dX10_go_324 (fun v189 hd => ?_)
                        refine v_imul X dX10_go_327 ?_
                        refine v_iload X dX10_go_328 3 rfl ?_
                        refine v_iadd X dX10_go_330 ?_
                        refine v_bipush (v := 48) X dX10_go_331 (by decide) ?_
                        refine v_isub X dX10_go_333 ?_
                        refine t_putI X hd rfl fp_X10_148 dX10_go_334 (fun ms hd => ?_)
                        exact v_loc [0, 1, 2] rfl (t_at (P := fun (u187 : Unit) m => V K 5 (mkM am hn m) 337 [(0, .ref am), (2, .int (b2i v155)), (3, .int (b2i u181))] []) hd KJ)
                    clear hd2
                    refine v_icmp_ge (tgt := 307) X dX10_go_284 (by decide) (fun q => ?_) (fun q => ?_)
                    · have hd := Tite_t q hd
                      exact v_loc [1, 2, 0, 3] rfl (t_at (P := fun (u184 : Unit) m => V K 5 (mkM am hn m) 307 [(0, .ref am), (2, .int (b2i v155)), (3, .int (b2i u181)), (4, .int v180)] []) hd KJ)
                    · have hd := Tite_f q hd
                      refine v_aload_n X dX10_go_287 1 0 rfl rfl ?_
                      refine v_ldc2 X q1890 dX10_go_288 ?_
                      refine v_aload_n X dX10_go_291 1 0 rfl rfl ?_
                      refine t_getL X hd rfl fl_X10_144 dX10_go_292 (fun v190 hd => ?_)
                      refine v_lmul X dX10_go_295 ?_
                      refine v_iload X dX10_go_296 3 rfl ?_
                      refine v_i2l X dX10_go_298 ?_
                      refine v_ladd X dX10_go_299 ?_
                      refine v_ldc2 X q1891 dX10_go_300 ?_
                      refine v_lsub X dX10_go_303 ?_
                      refine t_putL X hd rfl fp_X10_144 dX10_go_304 (fun ms hd => ?_)
                      exact v_loc [1, 2, 0, 3] rfl (t_at (P := fun (u184 : Unit) m => V K 5 (mkM am hn m) 307 [(0, .ref am), (2, .int (b2i v155)), (3, .int (b2i u181)), (4, .int v180)] []) hd KJ)
                  clear hd2
                  refine v_ifZ_eq (tgt := 271) X dX10_go_255 (by decide) (fun q => ?_) (fun q => ?_)
                  · have hd := Tcnd_f q hd
                    refine v_iconst (v := 0) X dX10_go_271 (by decide) ?_
                    exact v_loc [1, 2, 0] rfl (t_at (P := fun (u181 : Bool) m => V K 5 (mkM am hn m) 272 [(0, .ref am), (2, .int (b2i v155)), (4, .int v180)] [.int (b2i u181)]) hd KJ)
                  · have hd := Tcnd_t q hd
                    refine v_iload X dX10_go_258 0 rfl ?_
                    refine t_callS X hK hd (ct_X10_isLetter _ am v180) (lw_S q1880 q1881 q120 q1882) dn_X10_isLetter rfl ⟨by decide, by decide⟩ rfl (Nat.le_of_ble_eq_true rfl) dX10_go_260 (fun v191 ms hd => ?_)
                    show V K 5 (mkM am hn ms) 263 [(4, .int v180), (0, .ref am), (2, .int (b2i v155)), (3, .int (b2i s156))] [.int (b2i v191)]
                    refine v_iload_n X dX10_go_263 2 2 rfl rfl ?_
                    refine v_icmp_ne (tgt := 271) X dX10_go_264 (by decide) (fun q => ?_) (fun q => ?_)
                    · have hd := Tite_f q hd
                      refine v_iconst (v := 0) X dX10_go_271 (by decide) ?_
                      exact v_loc [1, 2, 0] rfl (t_at (P := fun (u181 : Bool) m => V K 5 (mkM am hn m) 272 [(0, .ref am), (2, .int (b2i v155)), (4, .int v180)] [.int (b2i u181)]) hd KJ)
                    · have hd := Tite_t q hd
                      refine v_iconst (v := 1) X dX10_go_267 (by decide) ?_
                      refine v_goto (tgt := 272) X dX10_go_268 (by decide) ?_
                      exact v_loc [1, 2, 0] rfl (t_at (P := fun (u181 : Bool) m => V K 5 (mkM am hn m) 272 [(0, .ref am), (2, .int (b2i v155)), (4, .int v180)] [.int (b2i u181)]) hd KJ)
            · have hd := Tcnd_f q hd
              refine v_aload_n X dX10_go_137 1 0 rfl rfl ?_
              refine v_iload_n X dX10_go_138 0 1 rfl rfl ?_
              refine v_bipush (v := 59) X dX10_go_139 (by decide) ?_
              obtain ⟨u196, m1, hd, hd2⟩ := TM.bind_some hd
              have KJ : V K 5 (mkM am hn m1) 179 [(0, .ref am), (1, .int v111)] [.int u196, .ref am] := by
                clear hd
                have hd := hd2
                refine t_putI X hd rfl fp_X10_131 dX10_go_179 (fun ms hd => ?_)
                refine v_aload_n X dX10_go_182 0 0 rfl rfl ?_
                refine v_iload_n X dX10_go_183 1 1 rfl rfl ?_
                refine t_putI X hd rfl fp_X10_141 dX10_go_184 (fun ms hd => ?_)
                refine v_aload_n X dX10_go_187 0 0 rfl rfl ?_
                refine v_dup X dX10_go_188 rfl ?_
                refine t_getI X hd rfl fl_X10_122 dX10_go_189 (fun v197 hd => ?_)
                refine v_iconst (v := 1) X dX10_go_192 (by decide) ?_
                refine v_iadd X dX10_go_193 ?_
                refine t_putI X hd rfl fp_X10_122 dX10_go_194 (fun ms hd => ?_)
                exact t_vret X hK hd ho dX10_go_197
              clear hd2
              refine v_icmp_eq (tgt := 174) X dX10_go_141 (by decide) (fun q => ?_) (fun q => ?_)
              · have hd := Tite_t q hd
                refine v_iconst (v := 4) X dX10_go_174 (by decide) ?_
                refine v_goto (tgt := 179) X dX10_go_175 (by decide) ?_
                exact v_loc [1, 0] rfl (t_at (P := fun (u196 : Int32) m => V K 5 (mkM am hn m) 179 [(0, .ref am), (1, .int v111)] [.int u196, .ref am]) hd KJ)
              · have hd := Tite_f q hd
                refine v_iload_n X dX10_go_144 0 1 rfl rfl ?_
                refine v_bipush (v := 60) X dX10_go_145 (by decide) ?_
                refine v_icmp_eq (tgt := 174) X dX10_go_147 (by decide) (fun q => ?_) (fun q => ?_)
                · have hd := Tite_t q hd
                  refine v_iconst (v := 4) X dX10_go_174 (by decide) ?_
                  refine v_goto (tgt := 179) X dX10_go_175 (by decide) ?_
                  exact v_loc [1, 0] rfl (t_at (P := fun (u196 : Int32) m => V K 5 (mkM am hn m) 179 [(0, .ref am), (1, .int v111)] [.int u196, .ref am]) hd KJ)
                · have hd := Tite_f q hd
                  refine v_iload_n X dX10_go_150 0 1 rfl rfl ?_
                  refine v_bipush (v := 61) X dX10_go_151 (by decide) ?_
                  refine v_icmp_eq (tgt := 174) X dX10_go_153 (by decide) (fun q => ?_) (fun q => ?_)
                  · have hd := Tite_t q hd
                    refine v_iconst (v := 4) X dX10_go_174 (by decide) ?_
                    refine v_goto (tgt := 179) X dX10_go_175 (by decide) ?_
                    exact v_loc [1, 0] rfl (t_at (P := fun (u196 : Int32) m => V K 5 (mkM am hn m) 179 [(0, .ref am), (1, .int v111)] [.int u196, .ref am]) hd KJ)
                  · have hd := Tite_f q hd
                    refine v_iload_n X dX10_go_156 0 1 rfl rfl ?_
                    refine v_bipush (v := 62) X dX10_go_157 (by decide) ?_
                    refine v_icmp_eq (tgt := 174) X dX10_go_159 (by decide) (fun q => ?_) (fun q => ?_)
                    · have hd := Tite_t q hd
                      refine v_iconst (v := 4) X dX10_go_174 (by decide) ?_
                      refine v_goto (tgt := 179) X dX10_go_175 (by decide) ?_
                      exact v_loc [1, 0] rfl (t_at (P := fun (u196 : Int32) m => V K 5 (mkM am hn m) 179 [(0, .ref am), (1, .int v111)] [.int u196, .ref am]) hd KJ)
                    · have hd := Tite_f q hd
                      refine v_iload_n X dX10_go_162 0 1 rfl rfl ?_
                      refine v_bipush (v := 40) X dX10_go_163 (by decide) ?_
                      refine v_icmp_eq (tgt := 174) X dX10_go_165 (by decide) (fun q => ?_) (fun q => ?_)
                      · have hd := Tite_t q hd
                        refine v_iconst (v := 4) X dX10_go_174 (by decide) ?_
                        refine v_goto (tgt := 179) X dX10_go_175 (by decide) ?_
                        exact v_loc [1, 0] rfl (t_at (P := fun (u196 : Int32) m => V K 5 (mkM am hn m) 179 [(0, .ref am), (1, .int v111)] [.int u196, .ref am]) hd KJ)
                      · have hd := Tite_f q hd
                        refine v_iload_n X dX10_go_168 0 1 rfl rfl ?_
                        refine v_bipush (v := 41) X dX10_go_169 (by decide) ?_
                        refine v_icmp_ne (tgt := 178) X dX10_go_171 (by decide) (fun q => ?_) (fun q => ?_)
                        · have hd := Tite_f q hd
                          refine v_iconst (v := 1) X dX10_go_178 (by decide) ?_
                          exact v_loc [1, 0] rfl (t_at (P := fun (u196 : Int32) m => V K 5 (mkM am hn m) 179 [(0, .ref am), (1, .int v111)] [.int u196, .ref am]) hd KJ)
                        · have hd := Tite_t q hd
                          refine v_iconst (v := 4) X dX10_go_174 (by decide) ?_
                          refine v_goto (tgt := 179) X dX10_go_175 (by decide) ?_
                          exact v_loc [1, 0] rfl (t_at (P := fun (u196 : Int32) m => V K 5 (mkM am hn m) 179 [(0, .ref am), (1, .int v111)] [.int u196, .ref am]) hd KJ)
        · have hd := Tite_f q hd
          refine v_aload_n X dX10_go_107 0 0 rfl rfl ?_
          refine v_iconst (v := 0) X dX10_go_108 (by decide) ?_
          refine t_putI X hd rfl fp_X10_131 dX10_go_109 (fun ms hd => ?_)
          exact t_vret X hK hd ho dX10_go_112
      · have hd := Tite_f q hd
        refine v_aload_n X dX10_go_82 0 0 rfl rfl ?_
        refine v_aload_n X dX10_go_83 0 0 rfl rfl ?_
        refine t_getI X hd rfl fl_X10_128 dX10_go_84 (fun v198 hd => ?_)
        refine t_putI X hd rfl fp_X10_125 dX10_go_87 (fun ms hd => ?_)
        refine v_aload_n X dX10_go_90 0 0 rfl rfl ?_
        refine v_iconst (v := 1) X dX10_go_91 (by decide) ?_
        refine t_putI X hd rfl fp_X10_131 dX10_go_92 (fun ms hd => ?_)
        exact t_vret X hK hd ho dX10_go_95
  clear hd2
  refine v_loc [0] rfl ?_
  refine Tloop_ind hd (fun (s1 : Unit) m => V K 5 (mkM am hn m) 0 [(0, .ref am)] []) (fun s1 ms x m2 hd ih2 ho3 => ?_)
  refine v_aload_n X dX10_go_0 0 0 rfl rfl ?_
  refine t_getI X hd rfl fl_X10_122 dX10_go_1 (fun v5 hd => ?_)
  refine v_aload_n X dX10_go_4 0 0 rfl rfl ?_
  refine t_getI X hd rfl fl_X10_119 dX10_go_5 (fun v6 hd => ?_)
  refine v_icmp_ge (tgt := 52) X dX10_go_8 (by decide) (fun q => ?_) (fun q => ?_)
  · have hd := Tite_t q hd
    exact v_loc [0] rfl (t_at (P := fun (e4 : Unit) m => V K 5 (mkM am hn m) 52 [(0, .ref am)] []) (Tlp_out hd ho3) KX)
  · have hd := Tite_f q hd
    refine v_aload_n X dX10_go_11 0 0 rfl rfl ?_
    refine t_getA (j := 0) X rfl fl_X10_7 dX10_go_12 ?_
    refine v_aload_n X dX10_go_15 0 0 rfl rfl ?_
    refine t_getI X hd rfl fl_X10_122 dX10_go_16 (fun v7 hd => ?_)
    refine t_iald (j := 0) X hd rfl dX10_go_19 (fun v8 hd => ?_)
    refine v_bipush (v := 32) X dX10_go_20 (by decide) ?_
    refine v_icmp_eq (tgt := 39) X dX10_go_22 (by decide) (fun q => ?_) (fun q => ?_)
    · have hd := Tite_t q hd
      refine v_aload_n X dX10_go_39 0 0 rfl rfl ?_
      refine v_dup X dX10_go_40 rfl ?_
      refine t_getI X hd rfl fl_X10_122 dX10_go_41 (fun v9 hd => ?_)
      refine v_iconst (v := 1) X dX10_go_44 (by decide) ?_
      refine v_iadd X dX10_go_45 ?_
      refine t_putI X hd rfl fp_X10_122 dX10_go_46 (fun ms hd => ?_)
      refine v_goto (tgt := 0) X dX10_go_49 (by decide) ?_
      exact v_loc [0] rfl (Tlp_in (P := fun (s1 : Unit) m => V K 5 (mkM am hn m) 0 [(0, .ref am)] []) hd ih2)
    · have hd := Tite_f q hd
      refine v_aload_n X dX10_go_25 0 0 rfl rfl ?_
      refine t_getA (j := 0) X rfl fl_X10_7 dX10_go_26 ?_
      refine v_aload_n X dX10_go_29 0 0 rfl rfl ?_
      refine t_getI X hd rfl fl_X10_122 dX10_go_30 (fun v10 hd => ?_)
      refine t_iald (j := 0) X hd rfl dX10_go_33 (fun v11 hd => ?_)
      refine v_bipush (v := 10) X dX10_go_34 (by decide) ?_
      refine v_icmp_ne (tgt := 52) X dX10_go_36 (by decide) (fun q => ?_) (fun q => ?_)
      · have hd := Tite_f q hd
        exact v_loc [0] rfl (t_at (P := fun (e4 : Unit) m => V K 5 (mkM am hn m) 52 [(0, .ref am)] []) (Tlp_out hd ho3) KX)
      · have hd := Tite_t q hd
        refine v_aload_n X dX10_go_39 0 0 rfl rfl ?_
        refine v_dup X dX10_go_40 rfl ?_
        refine t_getI X hd rfl fl_X10_122 dX10_go_41 (fun v12 hd => ?_)
        refine v_iconst (v := 1) X dX10_go_44 (by decide) ?_
        refine v_iadd X dX10_go_45 ?_
        refine t_putI X hd rfl fp_X10_122 dX10_go_46 (fun ms hd => ?_)
        refine v_goto (tgt := 0) X dX10_go_49 (by decide) ?_
        exact v_loc [0] rfl (Tlp_in (P := fun (s1 : Unit) m => V K 5 (mkM am hn m) 0 [(0, .ref am)] []) hd ih2)
