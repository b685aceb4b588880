set_option maxRecDepth 100000
def dkwX10_on_2 : List UInt8 := [20, 0, 157, 101, 167, 0, 5, 22, 5, 173]
abbrev dktX10_on_2 : List UInt8 := dkwX10_on_2 ++ []
def dkwX10_on_1 : List UInt8 := [29, 133, 97, 20, 0, 157, 101, 55, 5, 21, 4, 158, 0, 20, 20, 0, 155, 22, 5, 105, 21, 4, 133, 97]
abbrev dktX10_on_1 : List UInt8 := dkwX10_on_1 ++ dktX10_on_2
def dkwX10_on_0 : List UInt8 := [20, 0, 155, 30, 105, 28, 133, 97, 20, 0, 157, 101, 55, 5, 29, 158, 0, 18, 20, 0, 155, 22, 5, 105]
abbrev dktX10_on_0 : List UInt8 := dkwX10_on_0 ++ dktX10_on_1
theorem dksX10_on_0 : cX10_on.data.toList.drop 0 = dktX10_on_0 := by decide +kernel
theorem dksX10_on_1 : cX10_on.data.toList.drop 24 = dktX10_on_1 := dk_seg dksX10_on_0 24 rfl rfl
theorem dksX10_on_2 : cX10_on.data.toList.drop 48 = dktX10_on_2 := dk_seg dksX10_on_1 24 rfl rfl
theorem dX10_on_0 : decode cX10_on 0 = .ok (.ldc2_w 155, 3) := dk_20 0 155 (dk_at dksX10_on_0 0 rfl rfl)
theorem dX10_on_3 : decode cX10_on 3 = .ok (.lload_n 0, 1) := dk_30 (dk_at dksX10_on_0 3 rfl rfl)
theorem dX10_on_4 : decode cX10_on 4 = .ok (.lmul, 1) := dk_105 (dk_at dksX10_on_0 4 rfl rfl)
theorem dX10_on_5 : decode cX10_on 5 = .ok (.iload_n 2, 1) := dk_28 (dk_at dksX10_on_0 5 rfl rfl)
theorem dX10_on_6 : decode cX10_on 6 = .ok (.i2l, 1) := dk_133 (dk_at dksX10_on_0 6 rfl rfl)
theorem dX10_on_7 : decode cX10_on 7 = .ok (.ladd, 1) := dk_97 (dk_at dksX10_on_0 7 rfl rfl)
theorem dX10_on_8 : decode cX10_on 8 = .ok (.ldc2_w 157, 3) := dk_20 0 157 (dk_at dksX10_on_0 8 rfl rfl)
theorem dX10_on_11 : decode cX10_on 11 = .ok (.lsub, 1) := dk_101 (dk_at dksX10_on_0 11 rfl rfl)
theorem dX10_on_12 : decode cX10_on 12 = .ok (.lstore 5, 2) := dk_55 5 (dk_at dksX10_on_0 12 rfl rfl)
theorem dX10_on_14 : decode cX10_on 14 = .ok (.iload_n 3, 1) := dk_29 (dk_at dksX10_on_0 14 rfl rfl)
theorem dX10_on_15 : decode cX10_on 15 = .ok (.ifCond .le 18, 3) := dk_158 0 18 (dk_at dksX10_on_0 15 rfl rfl)
theorem dX10_on_18 : decode cX10_on 18 = .ok (.ldc2_w 155, 3) := dk_20 0 155 (dk_at dksX10_on_0 18 rfl rfl)
theorem dX10_on_21 : decode cX10_on 21 = .ok (.lload 5, 2) := dk_22 5 (dk_at dksX10_on_0 21 rfl rfl)
theorem dX10_on_23 : decode cX10_on 23 = .ok (.lmul, 1) := dk_105 (dk_at dksX10_on_0 23 rfl rfl)
theorem dX10_on_24 : decode cX10_on 24 = .ok (.iload_n 3, 1) := dk_29 (dk_at dksX10_on_1 0 rfl rfl)
theorem dX10_on_25 : decode cX10_on 25 = .ok (.i2l, 1) := dk_133 (dk_at dksX10_on_1 1 rfl rfl)
theorem dX10_on_26 : decode cX10_on 26 = .ok (.ladd, 1) := dk_97 (dk_at dksX10_on_1 2 rfl rfl)
theorem dX10_on_27 : decode cX10_on 27 = .ok (.ldc2_w 157, 3) := dk_20 0 157 (dk_at dksX10_on_1 3 rfl rfl)
theorem dX10_on_30 : decode cX10_on 30 = .ok (.lsub, 1) := dk_101 (dk_at dksX10_on_1 6 rfl rfl)
theorem dX10_on_31 : decode cX10_on 31 = .ok (.lstore 5, 2) := dk_55 5 (dk_at dksX10_on_1 7 rfl rfl)
theorem dX10_on_33 : decode cX10_on 33 = .ok (.iload 4, 2) := dk_21 4 (dk_at dksX10_on_1 9 rfl rfl)
theorem dX10_on_35 : decode cX10_on 35 = .ok (.ifCond .le 20, 3) := dk_158 0 20 (dk_at dksX10_on_1 11 rfl rfl)
theorem dX10_on_38 : decode cX10_on 38 = .ok (.ldc2_w 155, 3) := dk_20 0 155 (dk_at dksX10_on_1 14 rfl rfl)
theorem dX10_on_41 : decode cX10_on 41 = .ok (.lload 5, 2) := dk_22 5 (dk_at dksX10_on_1 17 rfl rfl)
theorem dX10_on_43 : decode cX10_on 43 = .ok (.lmul, 1) := dk_105 (dk_at dksX10_on_1 19 rfl rfl)
theorem dX10_on_44 : decode cX10_on 44 = .ok (.iload 4, 2) := dk_21 4 (dk_at dksX10_on_1 20 rfl rfl)
theorem dX10_on_46 : decode cX10_on 46 = .ok (.i2l, 1) := dk_133 (dk_at dksX10_on_1 22 rfl rfl)
theorem dX10_on_47 : decode cX10_on 47 = .ok (.ladd, 1) := dk_97 (dk_at dksX10_on_1 23 rfl rfl)
theorem dX10_on_48 : decode cX10_on 48 = .ok (.ldc2_w 157, 3) := dk_20 0 157 (dk_at dksX10_on_2 0 rfl rfl)
theorem dX10_on_51 : decode cX10_on 51 = .ok (.lsub, 1) := dk_101 (dk_at dksX10_on_2 3 rfl rfl)
theorem dX10_on_52 : decode cX10_on 52 = .ok (.goto 5, 3) := dk_167 0 5 (dk_at dksX10_on_2 4 rfl rfl)
theorem dX10_on_55 : decode cX10_on 55 = .ok (.lload 5, 2) := dk_22 5 (dk_at dksX10_on_2 7 rfl rfl)
theorem dX10_on_57 : decode cX10_on 57 = .ok (.lreturn, 1) := dk_173 (dk_at dksX10_on_2 9 rfl rfl)
theorem dn_X10_on : yX10_on.cls ≠ "java/lang/invoke/MethodHandle" ∧ yX10_on.cls ≠ "java/lang/invoke/VarHandle" ∧ (parseMethodDescriptor yX10_on.desc).map (fun d => d.parameters.length) = some 4 := by decide +kernel
noncomputable def M_X10_on (p1 : Int64) (p2 : Int32) (p3 : Int32) (p4 : Int32) : TM Int64 := TM.lv (((27 * p1) + p2.toInt64) - 96) (fun v1 => TM.bind ((if p3 ≤ 0 then TM.pure v1 else TM.lv (((27 * v1) + p3.toInt64) - 96) (fun v4 => TM.pure v4) : TM (Int64))) (fun u2 => TM.bind ((if p4 ≤ 0 then TM.pure u2 else TM.pure (((27 * u2) + p4.toInt64) - 96) : TM (Int64))) (fun u3 => TM.pure u3)))
set_option maxHeartbeats 4000000 in
theorem ct_X10_on (G : gG) (am : Nat) (p1 : Int64) (p2 : Int32) (p3 : Int32) (p4 : Int32) : gCtM G am yX10_on cX10_on 7 (some .long) 0 0 [.long p1, .int p2, .int p3, .int p4] (M_X10_on p1 p2 p3 p4) (fun x : Int64 => some (.long x)) := by
  refine gCtM.of (by decide) (Nat.le_of_ble_eq_true rfl) (fun K hn ms ms' r hG X hK hd ho => ?_)
  subst hG
  have X : gX K cX10_on 7 "BitingDoorsModel" "on" (some .long) 0 0 := X
  show V K 7 (mkM am hn ms) 0 [(0, .long p1), (2, .int p2), (3, .int p3), (4, .int p4)] []
  unfold M_X10_on at hd
  refine v_ldc2 X q1890 dX10_on_0 ?_
  refine v_lload_n X dX10_on_3 0 0 rfl rfl ?_
  refine v_lmul X dX10_on_4 ?_
  refine v_iload_n X dX10_on_5 1 2 rfl rfl ?_
  refine v_i2l X dX10_on_6 ?_
  refine v_ladd X dX10_on_7 ?_
  refine v_ldc2 X q1891 dX10_on_8 ?_
  refine v_lsub X dX10_on_11 ?_
  refine t_lvL hd (fun v1 hd => ?_)
  refine v_lstore (lv2 := [(5, .long v1), (0, .long p1), (2, .int p2), (3, .int p3), (4, .int p4)]) X dX10_on_12 (by decide) rfl ?_
  refine v_iload_n X dX10_on_14 3 3 rfl rfl ?_
  obtain ⟨u2, m1, hd, hd2⟩ := TM.bind_some hd
  have KJ : V K 7 (mkM am hn m1) 33 [(4, .int p4), (5, .long u2)] [] := by
    clear hd
    have hd := hd2
    refine v_iload X dX10_on_33 0 rfl ?_
    obtain ⟨u3, m1, hd, hd2⟩ := TM.bind_some hd
    have KJ : V K 7 (mkM am hn m1) 57 [] [.long u3] := by
      clear hd
      have hd := hd2
      exact t_lret X hK hd ho dX10_on_57
    clear hd2
    refine v_if_le (tgt := 55) X dX10_on_35 (by decide) (fun q => ?_) (fun q => ?_)
    · have hd := Tite_t q hd
      refine v_lload X dX10_on_55 1 rfl ?_
      exact v_loc [] rfl (t_at (P := fun (u3 : Int64) m => V K 7 (mkM am hn m) 57 [] [.long u3]) hd KJ)
    · have hd := Tite_f q hd
      refine v_ldc2 X q1890 dX10_on_38 ?_
      refine v_lload X dX10_on_41 1 rfl ?_
      refine v_lmul X dX10_on_43 ?_
      refine v_iload X dX10_on_44 0 rfl ?_
      refine v_i2l X dX10_on_46 ?_
      refine v_ladd X dX10_on_47 ?_
      refine v_ldc2 X q1891 dX10_on_48 ?_
      refine v_lsub X dX10_on_51 ?_
      refine v_goto (tgt := 57) X dX10_on_52 (by decide) ?_
      exact v_loc [] rfl (t_at (P := fun (u3 : Int64) m => V K 7 (mkM am hn m) 57 [] [.long u3]) hd KJ)
  clear hd2
  refine v_if_le (tgt := 33) X dX10_on_15 (by decide) (fun q => ?_) (fun q => ?_)
  · have hd := Tite_t q hd
    exact v_loc [4, 0] rfl (t_at (P := fun (u2 : Int64) m => V K 7 (mkM am hn m) 33 [(4, .int p4), (5, .long u2)] []) hd KJ)
  · have hd := Tite_f q hd
    refine v_ldc2 X q1890 dX10_on_18 ?_
    refine v_lload X dX10_on_21 0 rfl ?_
    refine v_lmul X dX10_on_23 ?_
    refine v_iload_n X dX10_on_24 3 3 rfl rfl ?_
    refine v_i2l X dX10_on_25 ?_
    refine v_ladd X dX10_on_26 ?_
    refine v_ldc2 X q1891 dX10_on_27 ?_
    refine v_lsub X dX10_on_30 ?_
    refine t_lvL hd (fun v4 hd => ?_)
    refine v_lstore (lv2 := [(5, .long v4), (0, .long p1), (2, .int p2), (3, .int p3), (4, .int p4)]) X dX10_on_31 (by decide) rfl ?_
    exact v_loc [4, 0] rfl (t_at (P := fun (u2 : Int64) m => V K 7 (mkM am hn m) 33 [(4, .int p4), (5, .long u2)] []) hd KJ)
def dkwX10_spelt_2 : List UInt8 := [105, 29, 133, 97, 20, 0, 157, 101, 167, 0, 5, 22, 4, 173]
abbrev dktX10_spelt_2 : List UInt8 := dkwX10_spelt_2 ++ []
def dkwX10_spelt_1 : List UInt8 := [20, 0, 155, 22, 4, 105, 28, 133, 97, 20, 0, 157, 101, 55, 4, 29, 158, 0, 19, 20, 0, 155, 22, 4]
abbrev dktX10_spelt_1 : List UInt8 := dkwX10_spelt_1 ++ dktX10_spelt_2
def dkwX10_spelt_0 : List UInt8 := [20, 0, 155, 26, 133, 20, 0, 157, 101, 105, 27, 133, 97, 20, 0, 157, 101, 55, 4, 28, 158, 0, 18]
abbrev dktX10_spelt_0 : List UInt8 := dkwX10_spelt_0 ++ dktX10_spelt_1
theorem dksX10_spelt_0 : cX10_spelt.data.toList.drop 0 = dktX10_spelt_0 := by decide +kernel
theorem dksX10_spelt_1 : cX10_spelt.data.toList.drop 23 = dktX10_spelt_1 := dk_seg dksX10_spelt_0 23 rfl rfl
theorem dksX10_spelt_2 : cX10_spelt.data.toList.drop 47 = dktX10_spelt_2 := dk_seg dksX10_spelt_1 24 rfl rfl
theorem dX10_spelt_0 : decode cX10_spelt 0 = .ok (.ldc2_w 155, 3) := dk_20 0 155 (dk_at dksX10_spelt_0 0 rfl rfl)
theorem dX10_spelt_3 : decode cX10_spelt 3 = .ok (.iload_n 0, 1) := dk_26 (dk_at dksX10_spelt_0 3 rfl rfl)
theorem dX10_spelt_4 : decode cX10_spelt 4 = .ok (.i2l, 1) := dk_133 (dk_at dksX10_spelt_0 4 rfl rfl)
theorem dX10_spelt_5 : decode cX10_spelt 5 = .ok (.ldc2_w 157, 3) := dk_20 0 157 (dk_at dksX10_spelt_0 5 rfl rfl)
theorem dX10_spelt_8 : decode cX10_spelt 8 = .ok (.lsub, 1) := dk_101 (dk_at dksX10_spelt_0 8 rfl rfl)
theorem dX10_spelt_9 : decode cX10_spelt 9 = .ok (.lmul, 1) := dk_105 (dk_at dksX10_spelt_0 9 rfl rfl)
theorem dX10_spelt_10 : decode cX10_spelt 10 = .ok (.iload_n 1, 1) := dk_27 (dk_at dksX10_spelt_0 10 rfl rfl)
theorem dX10_spelt_11 : decode cX10_spelt 11 = .ok (.i2l, 1) := dk_133 (dk_at dksX10_spelt_0 11 rfl rfl)
theorem dX10_spelt_12 : decode cX10_spelt 12 = .ok (.ladd, 1) := dk_97 (dk_at dksX10_spelt_0 12 rfl rfl)
theorem dX10_spelt_13 : decode cX10_spelt 13 = .ok (.ldc2_w 157, 3) := dk_20 0 157 (dk_at dksX10_spelt_0 13 rfl rfl)
theorem dX10_spelt_16 : decode cX10_spelt 16 = .ok (.lsub, 1) := dk_101 (dk_at dksX10_spelt_0 16 rfl rfl)
theorem dX10_spelt_17 : decode cX10_spelt 17 = .ok (.lstore 4, 2) := dk_55 4 (dk_at dksX10_spelt_0 17 rfl rfl)
theorem dX10_spelt_19 : decode cX10_spelt 19 = .ok (.iload_n 2, 1) := dk_28 (dk_at dksX10_spelt_0 19 rfl rfl)
theorem dX10_spelt_20 : decode cX10_spelt 20 = .ok (.ifCond .le 18, 3) := dk_158 0 18 (dk_at dksX10_spelt_0 20 rfl rfl)
theorem dX10_spelt_23 : decode cX10_spelt 23 = .ok (.ldc2_w 155, 3) := dk_20 0 155 (dk_at dksX10_spelt_1 0 rfl rfl)
theorem dX10_spelt_26 : decode cX10_spelt 26 = .ok (.lload 4, 2) := dk_22 4 (dk_at dksX10_spelt_1 3 rfl rfl)
theorem dX10_spelt_28 : decode cX10_spelt 28 = .ok (.lmul, 1) := dk_105 (dk_at dksX10_spelt_1 5 rfl rfl)
theorem dX10_spelt_29 : decode cX10_spelt 29 = .ok (.iload_n 2, 1) := dk_28 (dk_at dksX10_spelt_1 6 rfl rfl)
theorem dX10_spelt_30 : decode cX10_spelt 30 = .ok (.i2l, 1) := dk_133 (dk_at dksX10_spelt_1 7 rfl rfl)
theorem dX10_spelt_31 : decode cX10_spelt 31 = .ok (.ladd, 1) := dk_97 (dk_at dksX10_spelt_1 8 rfl rfl)
theorem dX10_spelt_32 : decode cX10_spelt 32 = .ok (.ldc2_w 157, 3) := dk_20 0 157 (dk_at dksX10_spelt_1 9 rfl rfl)
theorem dX10_spelt_35 : decode cX10_spelt 35 = .ok (.lsub, 1) := dk_101 (dk_at dksX10_spelt_1 12 rfl rfl)
theorem dX10_spelt_36 : decode cX10_spelt 36 = .ok (.lstore 4, 2) := dk_55 4 (dk_at dksX10_spelt_1 13 rfl rfl)
theorem dX10_spelt_38 : decode cX10_spelt 38 = .ok (.iload_n 3, 1) := dk_29 (dk_at dksX10_spelt_1 15 rfl rfl)
theorem dX10_spelt_39 : decode cX10_spelt 39 = .ok (.ifCond .le 19, 3) := dk_158 0 19 (dk_at dksX10_spelt_1 16 rfl rfl)
theorem dX10_spelt_42 : decode cX10_spelt 42 = .ok (.ldc2_w 155, 3) := dk_20 0 155 (dk_at dksX10_spelt_1 19 rfl rfl)
theorem dX10_spelt_45 : decode cX10_spelt 45 = .ok (.lload 4, 2) := dk_22 4 (dk_at dksX10_spelt_1 22 rfl rfl)
theorem dX10_spelt_47 : decode cX10_spelt 47 = .ok (.lmul, 1) := dk_105 (dk_at dksX10_spelt_2 0 rfl rfl)
theorem dX10_spelt_48 : decode cX10_spelt 48 = .ok (.iload_n 3, 1) := dk_29 (dk_at dksX10_spelt_2 1 rfl rfl)
theorem dX10_spelt_49 : decode cX10_spelt 49 = .ok (.i2l, 1) := dk_133 (dk_at dksX10_spelt_2 2 rfl rfl)
theorem dX10_spelt_50 : decode cX10_spelt 50 = .ok (.ladd, 1) := dk_97 (dk_at dksX10_spelt_2 3 rfl rfl)
theorem dX10_spelt_51 : decode cX10_spelt 51 = .ok (.ldc2_w 157, 3) := dk_20 0 157 (dk_at dksX10_spelt_2 4 rfl rfl)
theorem dX10_spelt_54 : decode cX10_spelt 54 = .ok (.lsub, 1) := dk_101 (dk_at dksX10_spelt_2 7 rfl rfl)
theorem dX10_spelt_55 : decode cX10_spelt 55 = .ok (.goto 5, 3) := dk_167 0 5 (dk_at dksX10_spelt_2 8 rfl rfl)
theorem dX10_spelt_58 : decode cX10_spelt 58 = .ok (.lload 4, 2) := dk_22 4 (dk_at dksX10_spelt_2 11 rfl rfl)
theorem dX10_spelt_60 : decode cX10_spelt 60 = .ok (.lreturn, 1) := dk_173 (dk_at dksX10_spelt_2 13 rfl rfl)
theorem dn_X10_spelt : yX10_spelt.cls ≠ "java/lang/invoke/MethodHandle" ∧ yX10_spelt.cls ≠ "java/lang/invoke/VarHandle" ∧ (parseMethodDescriptor yX10_spelt.desc).map (fun d => d.parameters.length) = some 4 := by decide +kernel
noncomputable def M_X10_spelt (p1 : Int32) (p2 : Int32) (p3 : Int32) (p4 : Int32) : TM Int64 := TM.lv (((27 * (p1.toInt64 - 96)) + p2.toInt64) - 96) (fun v1 => TM.bind ((if p3 ≤ 0 then TM.pure v1 else TM.lv (((27 * v1) + p3.toInt64) - 96) (fun v4 => TM.pure v4) : TM (Int64))) (fun u2 => TM.bind ((if p4 ≤ 0 then TM.pure u2 else TM.pure (((27 * u2) + p4.toInt64) - 96) : TM (Int64))) (fun u3 => TM.pure u3)))
set_option maxHeartbeats 4000000 in
theorem ct_X10_spelt (G : gG) (am : Nat) (p1 : Int32) (p2 : Int32) (p3 : Int32) (p4 : Int32) : gCtM G am yX10_spelt cX10_spelt 6 (some .long) 0 0 [.int p1, .int p2, .int p3, .int p4] (M_X10_spelt p1 p2 p3 p4) (fun x : Int64 => some (.long x)) := by
  refine gCtM.of (by decide) (Nat.le_of_ble_eq_true rfl) (fun K hn ms ms' r hG X hK hd ho => ?_)
  subst hG
  have X : gX K cX10_spelt 6 "BitingDoorsModel" "spelt" (some .long) 0 0 := X
  show V K 6 (mkM am hn ms) 0 [(0, .int p1), (1, .int p2), (2, .int p3), (3, .int p4)] []
  unfold M_X10_spelt at hd
  refine v_ldc2 X q1890 dX10_spelt_0 ?_
  refine v_iload_n X dX10_spelt_3 0 0 rfl rfl ?_
  refine v_i2l X dX10_spelt_4 ?_
  refine v_ldc2 X q1891 dX10_spelt_5 ?_
  refine v_lsub X dX10_spelt_8 ?_
  refine v_lmul X dX10_spelt_9 ?_
  refine v_iload_n X dX10_spelt_10 1 1 rfl rfl ?_
  refine v_i2l X dX10_spelt_11 ?_
  refine v_ladd X dX10_spelt_12 ?_
  refine v_ldc2 X q1891 dX10_spelt_13 ?_
  refine v_lsub X dX10_spelt_16 ?_
  refine t_lvL hd (fun v1 hd => ?_)
  refine v_lstore (lv2 := [(4, .long v1), (0, .int p1), (1, .int p2), (2, .int p3), (3, .int p4)]) X dX10_spelt_17 (by decide) rfl ?_
  refine v_iload_n X dX10_spelt_19 3 2 rfl rfl ?_
  obtain ⟨u2, m1, hd, hd2⟩ := TM.bind_some hd
  have KJ : V K 6 (mkM am hn m1) 38 [(3, .int p4), (4, .long u2)] [] := by
    clear hd
    have hd := hd2
    refine v_iload_n X dX10_spelt_38 0 3 rfl rfl ?_
    obtain ⟨u3, m1, hd, hd2⟩ := TM.bind_some hd
    have KJ : V K 6 (mkM am hn m1) 60 [] [.long u3] := by
      clear hd
      have hd := hd2
      exact t_lret X hK hd ho dX10_spelt_60
    clear hd2
    refine v_if_le (tgt := 58) X dX10_spelt_39 (by decide) (fun q => ?_) (fun q => ?_)
    · have hd := Tite_t q hd
      refine v_lload X dX10_spelt_58 1 rfl ?_
      exact v_loc [] rfl (t_at (P := fun (u3 : Int64) m => V K 6 (mkM am hn m) 60 [] [.long u3]) hd KJ)
    · have hd := Tite_f q hd
      refine v_ldc2 X q1890 dX10_spelt_42 ?_
      refine v_lload X dX10_spelt_45 1 rfl ?_
      refine v_lmul X dX10_spelt_47 ?_
      refine v_iload_n X dX10_spelt_48 0 3 rfl rfl ?_
      refine v_i2l X dX10_spelt_49 ?_
      refine v_ladd X dX10_spelt_50 ?_
      refine v_ldc2 X q1891 dX10_spelt_51 ?_
      refine v_lsub X dX10_spelt_54 ?_
      refine v_goto (tgt := 60) X dX10_spelt_55 (by decide) ?_
      exact v_loc [] rfl (t_at (P := fun (u3 : Int64) m => V K 6 (mkM am hn m) 60 [] [.long u3]) hd KJ)
  clear hd2
  refine v_if_le (tgt := 38) X dX10_spelt_20 (by decide) (fun q => ?_) (fun q => ?_)
  · have hd := Tite_t q hd
    exact v_loc [4, 0] rfl (t_at (P := fun (u2 : Int64) m => V K 6 (mkM am hn m) 38 [(3, .int p4), (4, .long u2)] []) hd KJ)
  · have hd := Tite_f q hd
    refine v_ldc2 X q1890 dX10_spelt_23 ?_
    refine v_lload X dX10_spelt_26 0 rfl ?_
    refine v_lmul X dX10_spelt_28 ?_
    refine v_iload_n X dX10_spelt_29 3 2 rfl rfl ?_
    refine v_i2l X dX10_spelt_30 ?_
    refine v_ladd X dX10_spelt_31 ?_
    refine v_ldc2 X q1891 dX10_spelt_32 ?_
    refine v_lsub X dX10_spelt_35 ?_
    refine t_lvL hd (fun v4 hd => ?_)
    refine v_lstore (lv2 := [(4, .long v4), (0, .int p1), (1, .int p2), (2, .int p3), (3, .int p4)]) X dX10_spelt_36 (by decide) rfl ?_
    exact v_loc [4, 0] rfl (t_at (P := fun (u2 : Int64) m => V K 6 (mkM am hn m) 38 [(3, .int p4), (4, .long u2)] []) hd KJ)
def dkwX10_wordOf_18 : List UInt8 := [16, 112, 16, 115, 3, 184, 0, 163, 173]
abbrev dktX10_wordOf_18 : List UInt8 := dkwX10_wordOf_18 ++ []
def dkwX10_wordOf_17 : List UInt8 := [184, 0, 159, 16, 116, 16, 104, 3, 184, 0, 163, 173, 16, 115, 16, 119, 16, 101, 16, 101, 184, 0, 159]
abbrev dktX10_wordOf_17 : List UInt8 := dkwX10_wordOf_17 ++ dktX10_wordOf_18
def dkwX10_wordOf_16 : List UInt8 := [16, 103, 16, 108, 184, 0, 159, 16, 101, 3, 3, 184, 0, 163, 173, 16, 108, 16, 101, 16, 110, 16, 103]
abbrev dktX10_wordOf_16 : List UInt8 := dkwX10_wordOf_16 ++ dktX10_wordOf_17
def dkwX10_wordOf_15 : List UInt8 := [173, 16, 98, 16, 105, 16, 116, 16, 101, 184, 0, 159, 16, 115, 3, 3, 184, 0, 163, 173, 16, 97, 16, 110]
abbrev dktX10_wordOf_15 : List UInt8 := dkwX10_wordOf_15 ++ dktX10_wordOf_16
def dkwX10_wordOf_14 : List UInt8 := [184, 0, 159, 173, 16, 102, 16, 105, 16, 116, 3, 184, 0, 159, 173, 16, 97, 16, 116, 3, 3, 184, 0, 159]
abbrev dktX10_wordOf_14 : List UInt8 := dkwX10_wordOf_14 ++ dktX10_wordOf_15
def dkwX10_wordOf_13 : List UInt8 := [184, 0, 159, 173, 16, 97, 16, 110, 16, 100, 3, 184, 0, 159, 173, 16, 110, 16, 111, 16, 116, 3]
abbrev dktX10_wordOf_13 : List UInt8 := dkwX10_wordOf_13 ++ dktX10_wordOf_14
def dkwX10_wordOf_12 : List UInt8 := [184, 0, 163, 173, 16, 119, 16, 101, 16, 115, 16, 116, 184, 0, 159, 173, 16, 111, 16, 114, 3, 3]
abbrev dktX10_wordOf_12 : List UInt8 := dkwX10_wordOf_12 ++ dktX10_wordOf_13
def dkwX10_wordOf_11 : List UInt8 := [16, 115, 16, 116, 184, 0, 159, 173, 16, 115, 16, 111, 16, 117, 16, 116, 184, 0, 159, 16, 104, 3, 3]
abbrev dktX10_wordOf_11 : List UInt8 := dkwX10_wordOf_11 ++ dktX10_wordOf_12
def dkwX10_wordOf_10 : List UInt8 := [16, 110, 16, 111, 16, 114, 16, 116, 184, 0, 159, 16, 104, 3, 3, 184, 0, 163, 173, 16, 101, 16, 97]
abbrev dktX10_wordOf_10 : List UInt8 := dkwX10_wordOf_10 ++ dktX10_wordOf_11
def dkwX10_wordOf_9 : List UInt8 := [16, 115, 16, 104, 16, 117, 16, 116, 184, 0, 159, 173, 16, 119, 16, 97, 16, 105, 16, 116, 184, 0, 159, 173]
abbrev dktX10_wordOf_9 : List UInt8 := dkwX10_wordOf_9 ++ dktX10_wordOf_10
def dkwX10_wordOf_8 : List UInt8 := [173, 16, 103, 16, 111, 3, 3, 184, 0, 159, 173, 16, 111, 16, 112, 16, 101, 16, 110, 184, 0, 159, 173]
abbrev dktX10_wordOf_8 : List UInt8 := dkwX10_wordOf_8 ++ dktX10_wordOf_9
def dkwX10_wordOf_7 : List UInt8 := [3, 3, 184, 0, 163, 173, 16, 119, 16, 104, 16, 111, 16, 108, 184, 0, 159, 16, 101, 3, 3, 184, 0, 163]
abbrev dktX10_wordOf_7 : List UInt8 := dkwX10_wordOf_7 ++ dktX10_wordOf_8
def dkwX10_wordOf_6 : List UInt8 := [16, 109, 16, 97, 16, 121, 3, 184, 0, 159, 173, 16, 99, 16, 111, 16, 115, 16, 116, 184, 0, 159, 16, 115]
abbrev dktX10_wordOf_6 : List UInt8 := dkwX10_wordOf_6 ++ dktX10_wordOf_7
def dkwX10_wordOf_5 : List UInt8 := [184, 0, 163, 173, 16, 97, 16, 99, 16, 114, 16, 111, 184, 0, 159, 16, 115, 16, 115, 3, 184, 0, 163, 173]
abbrev dktX10_wordOf_5 : List UInt8 := dkwX10_wordOf_5 ++ dktX10_wordOf_6
def dkwX10_wordOf_4 : List UInt8 := [16, 101, 16, 100, 3, 184, 0, 159, 173, 16, 97, 16, 108, 16, 111, 16, 110, 184, 0, 159, 16, 103, 3, 3]
abbrev dktX10_wordOf_4 : List UInt8 := dkwX10_wordOf_4 ++ dktX10_wordOf_5
def dkwX10_wordOf_3 : List UInt8 := [16, 100, 16, 114, 16, 97, 16, 117, 184, 0, 159, 16, 103, 16, 104, 16, 116, 184, 0, 163, 173, 16, 98]
abbrev dktX10_wordOf_3 : List UInt8 := dkwX10_wordOf_3 ++ dktX10_wordOf_4
def dkwX10_wordOf_2 : List UInt8 := [16, 114, 16, 111, 16, 119, 3, 184, 0, 159, 173, 16, 100, 16, 111, 16, 111, 16, 114, 184, 0, 159, 173]
abbrev dktX10_wordOf_2 : List UInt8 := dkwX10_wordOf_2 ++ dktX10_wordOf_3
def dkwX10_wordOf_1 : List UInt8 := [170, 0, 0, 0, 0, 1, 221, 0, 0, 0, 0, 0, 0, 0, 24, 0, 0, 0, 115, 0, 0, 0, 126, 0, 0, 0, 138, 0, 0, 0, 159, 0, 0, 0, 170, 0, 0, 0, 189, 0, 0, 0, 209, 0, 0, 0, 220, 0, 0, 0, 239, 0, 0, 1, 2, 0, 0, 1, 12, 0, 0, 1, 24, 0, 0, 1, 36, 0, 0, 1, 48, 0, 0, 1, 67, 0, 0, 1, 79, 0, 0, 1, 98, 0, 0, 1, 110, 0, 0, 1, 120, 0, 0, 1, 131, 0, 0, 1, 142, 0, 0, 1, 153, 0, 0, 1, 163, 0, 0, 1, 182, 0, 0, 1, 201]
abbrev dktX10_wordOf_1 : List UInt8 := dkwX10_wordOf_1 ++ dktX10_wordOf_2
def dkwX10_wordOf_0 : List UInt8 := [26]
abbrev dktX10_wordOf_0 : List UInt8 := dkwX10_wordOf_0 ++ dktX10_wordOf_1
theorem dksX10_wordOf_0 : cX10_wordOf.data.toList.drop 0 = dktX10_wordOf_0 := by decide +kernel
theorem dksX10_wordOf_1 : cX10_wordOf.data.toList.drop 1 = dktX10_wordOf_1 := dk_seg dksX10_wordOf_0 1 rfl rfl
theorem dksX10_wordOf_2 : cX10_wordOf.data.toList.drop 116 = dktX10_wordOf_2 := dk_seg dksX10_wordOf_1 115 rfl rfl
theorem dksX10_wordOf_3 : cX10_wordOf.data.toList.drop 139 = dktX10_wordOf_3 := dk_seg dksX10_wordOf_2 23 rfl rfl
theorem dksX10_wordOf_4 : cX10_wordOf.data.toList.drop 162 = dktX10_wordOf_4 := dk_seg dksX10_wordOf_3 23 rfl rfl
theorem dksX10_wordOf_5 : cX10_wordOf.data.toList.drop 186 = dktX10_wordOf_5 := dk_seg dksX10_wordOf_4 24 rfl rfl
theorem dksX10_wordOf_6 : cX10_wordOf.data.toList.drop 210 = dktX10_wordOf_6 := dk_seg dksX10_wordOf_5 24 rfl rfl
theorem dksX10_wordOf_7 : cX10_wordOf.data.toList.drop 234 = dktX10_wordOf_7 := dk_seg dksX10_wordOf_6 24 rfl rfl
theorem dksX10_wordOf_8 : cX10_wordOf.data.toList.drop 258 = dktX10_wordOf_8 := dk_seg dksX10_wordOf_7 24 rfl rfl
theorem dksX10_wordOf_9 : cX10_wordOf.data.toList.drop 281 = dktX10_wordOf_9 := dk_seg dksX10_wordOf_8 23 rfl rfl
theorem dksX10_wordOf_10 : cX10_wordOf.data.toList.drop 305 = dktX10_wordOf_10 := dk_seg dksX10_wordOf_9 24 rfl rfl
theorem dksX10_wordOf_11 : cX10_wordOf.data.toList.drop 328 = dktX10_wordOf_11 := dk_seg dksX10_wordOf_10 23 rfl rfl
theorem dksX10_wordOf_12 : cX10_wordOf.data.toList.drop 351 = dktX10_wordOf_12 := dk_seg dksX10_wordOf_11 23 rfl rfl
theorem dksX10_wordOf_13 : cX10_wordOf.data.toList.drop 373 = dktX10_wordOf_13 := dk_seg dksX10_wordOf_12 22 rfl rfl
theorem dksX10_wordOf_14 : cX10_wordOf.data.toList.drop 395 = dktX10_wordOf_14 := dk_seg dksX10_wordOf_13 22 rfl rfl
theorem dksX10_wordOf_15 : cX10_wordOf.data.toList.drop 419 = dktX10_wordOf_15 := dk_seg dksX10_wordOf_14 24 rfl rfl
theorem dksX10_wordOf_16 : cX10_wordOf.data.toList.drop 443 = dktX10_wordOf_16 := dk_seg dksX10_wordOf_15 24 rfl rfl
theorem dksX10_wordOf_17 : cX10_wordOf.data.toList.drop 466 = dktX10_wordOf_17 := dk_seg dksX10_wordOf_16 23 rfl rfl
theorem dksX10_wordOf_18 : cX10_wordOf.data.toList.drop 489 = dktX10_wordOf_18 := dk_seg dksX10_wordOf_17 23 rfl rfl
theorem dX10_wordOf_0 : decode cX10_wordOf 0 = .ok (.iload_n 0, 1) := dk_26 (dk_at dksX10_wordOf_0 0 rfl rfl)
theorem dX10_wordOf_1 : decode cX10_wordOf 1 = .ok (.tableswitch 477 0 24 #[115, 126, 138, 159, 170, 189, 209, 220, 239, 258, 268, 280, 292, 304, 323, 335, 354, 366, 376, 387, 398, 409, 419, 438, 457], 115) := by decide +kernel
theorem dX10_wordOf_116 : decode cX10_wordOf 116 = .ok (.bipush 114, 2) := dk_16 114 (dk_at dksX10_wordOf_2 0 rfl rfl)
theorem dX10_wordOf_118 : decode cX10_wordOf 118 = .ok (.bipush 111, 2) := dk_16 111 (dk_at dksX10_wordOf_2 2 rfl rfl)
theorem dX10_wordOf_120 : decode cX10_wordOf 120 = .ok (.bipush 119, 2) := dk_16 119 (dk_at dksX10_wordOf_2 4 rfl rfl)
theorem dX10_wordOf_122 : decode cX10_wordOf 122 = .ok (.iconst 0, 1) := dk_3 (dk_at dksX10_wordOf_2 6 rfl rfl)
theorem dX10_wordOf_123 : decode cX10_wordOf 123 = .ok (.invokestatic 159, 3) := dk_184 0 159 (dk_at dksX10_wordOf_2 7 rfl rfl)
theorem dX10_wordOf_126 : decode cX10_wordOf 126 = .ok (.lreturn, 1) := dk_173 (dk_at dksX10_wordOf_2 10 rfl rfl)
theorem dX10_wordOf_127 : decode cX10_wordOf 127 = .ok (.bipush 100, 2) := dk_16 100 (dk_at dksX10_wordOf_2 11 rfl rfl)
theorem dX10_wordOf_129 : decode cX10_wordOf 129 = .ok (.bipush 111, 2) := dk_16 111 (dk_at dksX10_wordOf_2 13 rfl rfl)
theorem dX10_wordOf_131 : decode cX10_wordOf 131 = .ok (.bipush 111, 2) := dk_16 111 (dk_at dksX10_wordOf_2 15 rfl rfl)
theorem dX10_wordOf_133 : decode cX10_wordOf 133 = .ok (.bipush 114, 2) := dk_16 114 (dk_at dksX10_wordOf_2 17 rfl rfl)
theorem dX10_wordOf_135 : decode cX10_wordOf 135 = .ok (.invokestatic 159, 3) := dk_184 0 159 (dk_at dksX10_wordOf_2 19 rfl rfl)
theorem dX10_wordOf_138 : decode cX10_wordOf 138 = .ok (.lreturn, 1) := dk_173 (dk_at dksX10_wordOf_2 22 rfl rfl)
theorem dX10_wordOf_139 : decode cX10_wordOf 139 = .ok (.bipush 100, 2) := dk_16 100 (dk_at dksX10_wordOf_3 0 rfl rfl)
theorem dX10_wordOf_141 : decode cX10_wordOf 141 = .ok (.bipush 114, 2) := dk_16 114 (dk_at dksX10_wordOf_3 2 rfl rfl)
theorem dX10_wordOf_143 : decode cX10_wordOf 143 = .ok (.bipush 97, 2) := dk_16 97 (dk_at dksX10_wordOf_3 4 rfl rfl)
theorem dX10_wordOf_145 : decode cX10_wordOf 145 = .ok (.bipush 117, 2) := dk_16 117 (dk_at dksX10_wordOf_3 6 rfl rfl)
theorem dX10_wordOf_147 : decode cX10_wordOf 147 = .ok (.invokestatic 159, 3) := dk_184 0 159 (dk_at dksX10_wordOf_3 8 rfl rfl)
theorem dX10_wordOf_150 : decode cX10_wordOf 150 = .ok (.bipush 103, 2) := dk_16 103 (dk_at dksX10_wordOf_3 11 rfl rfl)
theorem dX10_wordOf_152 : decode cX10_wordOf 152 = .ok (.bipush 104, 2) := dk_16 104 (dk_at dksX10_wordOf_3 13 rfl rfl)
theorem dX10_wordOf_154 : decode cX10_wordOf 154 = .ok (.bipush 116, 2) := dk_16 116 (dk_at dksX10_wordOf_3 15 rfl rfl)
theorem dX10_wordOf_156 : decode cX10_wordOf 156 = .ok (.invokestatic 163, 3) := dk_184 0 163 (dk_at dksX10_wordOf_3 17 rfl rfl)
theorem dX10_wordOf_159 : decode cX10_wordOf 159 = .ok (.lreturn, 1) := dk_173 (dk_at dksX10_wordOf_3 20 rfl rfl)
theorem dX10_wordOf_160 : decode cX10_wordOf 160 = .ok (.bipush 98, 2) := dk_16 98 (dk_at dksX10_wordOf_3 21 rfl rfl)
theorem dX10_wordOf_162 : decode cX10_wordOf 162 = .ok (.bipush 101, 2) := dk_16 101 (dk_at dksX10_wordOf_4 0 rfl rfl)
theorem dX10_wordOf_164 : decode cX10_wordOf 164 = .ok (.bipush 100, 2) := dk_16 100 (dk_at dksX10_wordOf_4 2 rfl rfl)
theorem dX10_wordOf_166 : decode cX10_wordOf 166 = .ok (.iconst 0, 1) := dk_3 (dk_at dksX10_wordOf_4 4 rfl rfl)
theorem dX10_wordOf_167 : decode cX10_wordOf 167 = .ok (.invokestatic 159, 3) := dk_184 0 159 (dk_at dksX10_wordOf_4 5 rfl rfl)
theorem dX10_wordOf_170 : decode cX10_wordOf 170 = .ok (.lreturn, 1) := dk_173 (dk_at dksX10_wordOf_4 8 rfl rfl)
theorem dX10_wordOf_171 : decode cX10_wordOf 171 = .ok (.bipush 97, 2) := dk_16 97 (dk_at dksX10_wordOf_4 9 rfl rfl)
theorem dX10_wordOf_173 : decode cX10_wordOf 173 = .ok (.bipush 108, 2) := dk_16 108 (dk_at dksX10_wordOf_4 11 rfl rfl)
theorem dX10_wordOf_175 : decode cX10_wordOf 175 = .ok (.bipush 111, 2) := dk_16 111 (dk_at dksX10_wordOf_4 13 rfl rfl)
theorem dX10_wordOf_177 : decode cX10_wordOf 177 = .ok (.bipush 110, 2) := dk_16 110 (dk_at dksX10_wordOf_4 15 rfl rfl)
theorem dX10_wordOf_179 : decode cX10_wordOf 179 = .ok (.invokestatic 159, 3) := dk_184 0 159 (dk_at dksX10_wordOf_4 17 rfl rfl)
theorem dX10_wordOf_182 : decode cX10_wordOf 182 = .ok (.bipush 103, 2) := dk_16 103 (dk_at dksX10_wordOf_4 20 rfl rfl)
theorem dX10_wordOf_184 : decode cX10_wordOf 184 = .ok (.iconst 0, 1) := dk_3 (dk_at dksX10_wordOf_4 22 rfl rfl)
theorem dX10_wordOf_185 : decode cX10_wordOf 185 = .ok (.iconst 0, 1) := dk_3 (dk_at dksX10_wordOf_4 23 rfl rfl)
theorem dX10_wordOf_186 : decode cX10_wordOf 186 = .ok (.invokestatic 163, 3) := dk_184 0 163 (dk_at dksX10_wordOf_5 0 rfl rfl)
theorem dX10_wordOf_189 : decode cX10_wordOf 189 = .ok (.lreturn, 1) := dk_173 (dk_at dksX10_wordOf_5 3 rfl rfl)
theorem dX10_wordOf_190 : decode cX10_wordOf 190 = .ok (.bipush 97, 2) := dk_16 97 (dk_at dksX10_wordOf_5 4 rfl rfl)
theorem dX10_wordOf_192 : decode cX10_wordOf 192 = .ok (.bipush 99, 2) := dk_16 99 (dk_at dksX10_wordOf_5 6 rfl rfl)
theorem dX10_wordOf_194 : decode cX10_wordOf 194 = .ok (.bipush 114, 2) := dk_16 114 (dk_at dksX10_wordOf_5 8 rfl rfl)
theorem dX10_wordOf_196 : decode cX10_wordOf 196 = .ok (.bipush 111, 2) := dk_16 111 (dk_at dksX10_wordOf_5 10 rfl rfl)
theorem dX10_wordOf_198 : decode cX10_wordOf 198 = .ok (.invokestatic 159, 3) := dk_184 0 159 (dk_at dksX10_wordOf_5 12 rfl rfl)
theorem dX10_wordOf_201 : decode cX10_wordOf 201 = .ok (.bipush 115, 2) := dk_16 115 (dk_at dksX10_wordOf_5 15 rfl rfl)
theorem dX10_wordOf_203 : decode cX10_wordOf 203 = .ok (.bipush 115, 2) := dk_16 115 (dk_at dksX10_wordOf_5 17 rfl rfl)
theorem dX10_wordOf_205 : decode cX10_wordOf 205 = .ok (.iconst 0, 1) := dk_3 (dk_at dksX10_wordOf_5 19 rfl rfl)
theorem dX10_wordOf_206 : decode cX10_wordOf 206 = .ok (.invokestatic 163, 3) := dk_184 0 163 (dk_at dksX10_wordOf_5 20 rfl rfl)
theorem dX10_wordOf_209 : decode cX10_wordOf 209 = .ok (.lreturn, 1) := dk_173 (dk_at dksX10_wordOf_5 23 rfl rfl)
theorem dX10_wordOf_210 : decode cX10_wordOf 210 = .ok (.bipush 109, 2) := dk_16 109 (dk_at dksX10_wordOf_6 0 rfl rfl)
theorem dX10_wordOf_212 : decode cX10_wordOf 212 = .ok (.bipush 97, 2) := dk_16 97 (dk_at dksX10_wordOf_6 2 rfl rfl)
theorem dX10_wordOf_214 : decode cX10_wordOf 214 = .ok (.bipush 121, 2) := dk_16 121 (dk_at dksX10_wordOf_6 4 rfl rfl)
theorem dX10_wordOf_216 : decode cX10_wordOf 216 = .ok (.iconst 0, 1) := dk_3 (dk_at dksX10_wordOf_6 6 rfl rfl)
theorem dX10_wordOf_217 : decode cX10_wordOf 217 = .ok (.invokestatic 159, 3) := dk_184 0 159 (dk_at dksX10_wordOf_6 7 rfl rfl)
theorem dX10_wordOf_220 : decode cX10_wordOf 220 = .ok (.lreturn, 1) := dk_173 (dk_at dksX10_wordOf_6 10 rfl rfl)
theorem dX10_wordOf_221 : decode cX10_wordOf 221 = .ok (.bipush 99, 2) := dk_16 99 (dk_at dksX10_wordOf_6 11 rfl rfl)
theorem dX10_wordOf_223 : decode cX10_wordOf 223 = .ok (.bipush 111, 2) := dk_16 111 (dk_at dksX10_wordOf_6 13 rfl rfl)
theorem dX10_wordOf_225 : decode cX10_wordOf 225 = .ok (.bipush 115, 2) := dk_16 115 (dk_at dksX10_wordOf_6 15 rfl rfl)
theorem dX10_wordOf_227 : decode cX10_wordOf 227 = .ok (.bipush 116, 2) := dk_16 116 (dk_at dksX10_wordOf_6 17 rfl rfl)
theorem dX10_wordOf_229 : decode cX10_wordOf 229 = .ok (.invokestatic 159, 3) := dk_184 0 159 (dk_at dksX10_wordOf_6 19 rfl rfl)
theorem dX10_wordOf_232 : decode cX10_wordOf 232 = .ok (.bipush 115, 2) := dk_16 115 (dk_at dksX10_wordOf_6 22 rfl rfl)
theorem dX10_wordOf_234 : decode cX10_wordOf 234 = .ok (.iconst 0, 1) := dk_3 (dk_at dksX10_wordOf_7 0 rfl rfl)
theorem dX10_wordOf_235 : decode cX10_wordOf 235 = .ok (.iconst 0, 1) := dk_3 (dk_at dksX10_wordOf_7 1 rfl rfl)
theorem dX10_wordOf_236 : decode cX10_wordOf 236 = .ok (.invokestatic 163, 3) := dk_184 0 163 (dk_at dksX10_wordOf_7 2 rfl rfl)
theorem dX10_wordOf_239 : decode cX10_wordOf 239 = .ok (.lreturn, 1) := dk_173 (dk_at dksX10_wordOf_7 5 rfl rfl)
theorem dX10_wordOf_240 : decode cX10_wordOf 240 = .ok (.bipush 119, 2) := dk_16 119 (dk_at dksX10_wordOf_7 6 rfl rfl)
theorem dX10_wordOf_242 : decode cX10_wordOf 242 = .ok (.bipush 104, 2) := dk_16 104 (dk_at dksX10_wordOf_7 8 rfl rfl)
theorem dX10_wordOf_244 : decode cX10_wordOf 244 = .ok (.bipush 111, 2) := dk_16 111 (dk_at dksX10_wordOf_7 10 rfl rfl)
theorem dX10_wordOf_246 : decode cX10_wordOf 246 = .ok (.bipush 108, 2) := dk_16 108 (dk_at dksX10_wordOf_7 12 rfl rfl)
theorem dX10_wordOf_248 : decode cX10_wordOf 248 = .ok (.invokestatic 159, 3) := dk_184 0 159 (dk_at dksX10_wordOf_7 14 rfl rfl)
theorem dX10_wordOf_251 : decode cX10_wordOf 251 = .ok (.bipush 101, 2) := dk_16 101 (dk_at dksX10_wordOf_7 17 rfl rfl)
theorem dX10_wordOf_253 : decode cX10_wordOf 253 = .ok (.iconst 0, 1) := dk_3 (dk_at dksX10_wordOf_7 19 rfl rfl)
theorem dX10_wordOf_254 : decode cX10_wordOf 254 = .ok (.iconst 0, 1) := dk_3 (dk_at dksX10_wordOf_7 20 rfl rfl)
theorem dX10_wordOf_255 : decode cX10_wordOf 255 = .ok (.invokestatic 163, 3) := dk_184 0 163 (dk_at dksX10_wordOf_7 21 rfl rfl)
theorem dX10_wordOf_258 : decode cX10_wordOf 258 = .ok (.lreturn, 1) := dk_173 (dk_at dksX10_wordOf_8 0 rfl rfl)
theorem dX10_wordOf_259 : decode cX10_wordOf 259 = .ok (.bipush 103, 2) := dk_16 103 (dk_at dksX10_wordOf_8 1 rfl rfl)
theorem dX10_wordOf_261 : decode cX10_wordOf 261 = .ok (.bipush 111, 2) := dk_16 111 (dk_at dksX10_wordOf_8 3 rfl rfl)
theorem dX10_wordOf_263 : decode cX10_wordOf 263 = .ok (.iconst 0, 1) := dk_3 (dk_at dksX10_wordOf_8 5 rfl rfl)
theorem dX10_wordOf_264 : decode cX10_wordOf 264 = .ok (.iconst 0, 1) := dk_3 (dk_at dksX10_wordOf_8 6 rfl rfl)
theorem dX10_wordOf_265 : decode cX10_wordOf 265 = .ok (.invokestatic 159, 3) := dk_184 0 159 (dk_at dksX10_wordOf_8 7 rfl rfl)
theorem dX10_wordOf_268 : decode cX10_wordOf 268 = .ok (.lreturn, 1) := dk_173 (dk_at dksX10_wordOf_8 10 rfl rfl)
theorem dX10_wordOf_269 : decode cX10_wordOf 269 = .ok (.bipush 111, 2) := dk_16 111 (dk_at dksX10_wordOf_8 11 rfl rfl)
theorem dX10_wordOf_271 : decode cX10_wordOf 271 = .ok (.bipush 112, 2) := dk_16 112 (dk_at dksX10_wordOf_8 13 rfl rfl)
theorem dX10_wordOf_273 : decode cX10_wordOf 273 = .ok (.bipush 101, 2) := dk_16 101 (dk_at dksX10_wordOf_8 15 rfl rfl)
theorem dX10_wordOf_275 : decode cX10_wordOf 275 = .ok (.bipush 110, 2) := dk_16 110 (dk_at dksX10_wordOf_8 17 rfl rfl)
theorem dX10_wordOf_277 : decode cX10_wordOf 277 = .ok (.invokestatic 159, 3) := dk_184 0 159 (dk_at dksX10_wordOf_8 19 rfl rfl)
theorem dX10_wordOf_280 : decode cX10_wordOf 280 = .ok (.lreturn, 1) := dk_173 (dk_at dksX10_wordOf_8 22 rfl rfl)
theorem dX10_wordOf_281 : decode cX10_wordOf 281 = .ok (.bipush 115, 2) := dk_16 115 (dk_at dksX10_wordOf_9 0 rfl rfl)
theorem dX10_wordOf_283 : decode cX10_wordOf 283 = .ok (.bipush 104, 2) := dk_16 104 (dk_at dksX10_wordOf_9 2 rfl rfl)
theorem dX10_wordOf_285 : decode cX10_wordOf 285 = .ok (.bipush 117, 2) := dk_16 117 (dk_at dksX10_wordOf_9 4 rfl rfl)
theorem dX10_wordOf_287 : decode cX10_wordOf 287 = .ok (.bipush 116, 2) := dk_16 116 (dk_at dksX10_wordOf_9 6 rfl rfl)
theorem dX10_wordOf_289 : decode cX10_wordOf 289 = .ok (.invokestatic 159, 3) := dk_184 0 159 (dk_at dksX10_wordOf_9 8 rfl rfl)
theorem dX10_wordOf_292 : decode cX10_wordOf 292 = .ok (.lreturn, 1) := dk_173 (dk_at dksX10_wordOf_9 11 rfl rfl)
theorem dX10_wordOf_293 : decode cX10_wordOf 293 = .ok (.bipush 119, 2) := dk_16 119 (dk_at dksX10_wordOf_9 12 rfl rfl)
theorem dX10_wordOf_295 : decode cX10_wordOf 295 = .ok (.bipush 97, 2) := dk_16 97 (dk_at dksX10_wordOf_9 14 rfl rfl)
theorem dX10_wordOf_297 : decode cX10_wordOf 297 = .ok (.bipush 105, 2) := dk_16 105 (dk_at dksX10_wordOf_9 16 rfl rfl)
theorem dX10_wordOf_299 : decode cX10_wordOf 299 = .ok (.bipush 116, 2) := dk_16 116 (dk_at dksX10_wordOf_9 18 rfl rfl)
theorem dX10_wordOf_301 : decode cX10_wordOf 301 = .ok (.invokestatic 159, 3) := dk_184 0 159 (dk_at dksX10_wordOf_9 20 rfl rfl)
theorem dX10_wordOf_304 : decode cX10_wordOf 304 = .ok (.lreturn, 1) := dk_173 (dk_at dksX10_wordOf_9 23 rfl rfl)
theorem dX10_wordOf_305 : decode cX10_wordOf 305 = .ok (.bipush 110, 2) := dk_16 110 (dk_at dksX10_wordOf_10 0 rfl rfl)
theorem dX10_wordOf_307 : decode cX10_wordOf 307 = .ok (.bipush 111, 2) := dk_16 111 (dk_at dksX10_wordOf_10 2 rfl rfl)
theorem dX10_wordOf_309 : decode cX10_wordOf 309 = .ok (.bipush 114, 2) := dk_16 114 (dk_at dksX10_wordOf_10 4 rfl rfl)
theorem dX10_wordOf_311 : decode cX10_wordOf 311 = .ok (.bipush 116, 2) := dk_16 116 (dk_at dksX10_wordOf_10 6 rfl rfl)
theorem dX10_wordOf_313 : decode cX10_wordOf 313 = .ok (.invokestatic 159, 3) := dk_184 0 159 (dk_at dksX10_wordOf_10 8 rfl rfl)
theorem dX10_wordOf_316 : decode cX10_wordOf 316 = .ok (.bipush 104, 2) := dk_16 104 (dk_at dksX10_wordOf_10 11 rfl rfl)
theorem dX10_wordOf_318 : decode cX10_wordOf 318 = .ok (.iconst 0, 1) := dk_3 (dk_at dksX10_wordOf_10 13 rfl rfl)
theorem dX10_wordOf_319 : decode cX10_wordOf 319 = .ok (.iconst 0, 1) := dk_3 (dk_at dksX10_wordOf_10 14 rfl rfl)
theorem dX10_wordOf_320 : decode cX10_wordOf 320 = .ok (.invokestatic 163, 3) := dk_184 0 163 (dk_at dksX10_wordOf_10 15 rfl rfl)
theorem dX10_wordOf_323 : decode cX10_wordOf 323 = .ok (.lreturn, 1) := dk_173 (dk_at dksX10_wordOf_10 18 rfl rfl)
theorem dX10_wordOf_324 : decode cX10_wordOf 324 = .ok (.bipush 101, 2) := dk_16 101 (dk_at dksX10_wordOf_10 19 rfl rfl)
theorem dX10_wordOf_326 : decode cX10_wordOf 326 = .ok (.bipush 97, 2) := dk_16 97 (dk_at dksX10_wordOf_10 21 rfl rfl)
theorem dX10_wordOf_328 : decode cX10_wordOf 328 = .ok (.bipush 115, 2) := dk_16 115 (dk_at dksX10_wordOf_11 0 rfl rfl)
theorem dX10_wordOf_330 : decode cX10_wordOf 330 = .ok (.bipush 116, 2) := dk_16 116 (dk_at dksX10_wordOf_11 2 rfl rfl)
theorem dX10_wordOf_332 : decode cX10_wordOf 332 = .ok (.invokestatic 159, 3) := dk_184 0 159 (dk_at dksX10_wordOf_11 4 rfl rfl)
theorem dX10_wordOf_335 : decode cX10_wordOf 335 = .ok (.lreturn, 1) := dk_173 (dk_at dksX10_wordOf_11 7 rfl rfl)
theorem dX10_wordOf_336 : decode cX10_wordOf 336 = .ok (.bipush 115, 2) := dk_16 115 (dk_at dksX10_wordOf_11 8 rfl rfl)
theorem dX10_wordOf_338 : decode cX10_wordOf 338 = .ok (.bipush 111, 2) := dk_16 111 (dk_at dksX10_wordOf_11 10 rfl rfl)
theorem dX10_wordOf_340 : decode cX10_wordOf 340 = .ok (.bipush 117, 2) := dk_16 117 (dk_at dksX10_wordOf_11 12 rfl rfl)
theorem dX10_wordOf_342 : decode cX10_wordOf 342 = .ok (.bipush 116, 2) := dk_16 116 (dk_at dksX10_wordOf_11 14 rfl rfl)
theorem dX10_wordOf_344 : decode cX10_wordOf 344 = .ok (.invokestatic 159, 3) := dk_184 0 159 (dk_at dksX10_wordOf_11 16 rfl rfl)
theorem dX10_wordOf_347 : decode cX10_wordOf 347 = .ok (.bipush 104, 2) := dk_16 104 (dk_at dksX10_wordOf_11 19 rfl rfl)
theorem dX10_wordOf_349 : decode cX10_wordOf 349 = .ok (.iconst 0, 1) := dk_3 (dk_at dksX10_wordOf_11 21 rfl rfl)
theorem dX10_wordOf_350 : decode cX10_wordOf 350 = .ok (.iconst 0, 1) := dk_3 (dk_at dksX10_wordOf_11 22 rfl rfl)
theorem dX10_wordOf_351 : decode cX10_wordOf 351 = .ok (.invokestatic 163, 3) := dk_184 0 163 (dk_at dksX10_wordOf_12 0 rfl rfl)
theorem dX10_wordOf_354 : decode cX10_wordOf 354 = .ok (.lreturn, 1) := dk_173 (dk_at dksX10_wordOf_12 3 rfl rfl)
theorem dX10_wordOf_355 : decode cX10_wordOf 355 = .ok (.bipush 119, 2) := dk_16 119 (dk_at dksX10_wordOf_12 4 rfl rfl)
theorem dX10_wordOf_357 : decode cX10_wordOf 357 = .ok (.bipush 101, 2) := dk_16 101 (dk_at dksX10_wordOf_12 6 rfl rfl)
theorem dX10_wordOf_359 : decode cX10_wordOf 359 = .ok (.bipush 115, 2) := dk_16 115 (dk_at dksX10_wordOf_12 8 rfl rfl)
theorem dX10_wordOf_361 : decode cX10_wordOf 361 = .ok (.bipush 116, 2) := dk_16 116 (dk_at dksX10_wordOf_12 10 rfl rfl)
theorem dX10_wordOf_363 : decode cX10_wordOf 363 = .ok (.invokestatic 159, 3) := dk_184 0 159 (dk_at dksX10_wordOf_12 12 rfl rfl)
theorem dX10_wordOf_366 : decode cX10_wordOf 366 = .ok (.lreturn, 1) := dk_173 (dk_at dksX10_wordOf_12 15 rfl rfl)
theorem dX10_wordOf_367 : decode cX10_wordOf 367 = .ok (.bipush 111, 2) := dk_16 111 (dk_at dksX10_wordOf_12 16 rfl rfl)
theorem dX10_wordOf_369 : decode cX10_wordOf 369 = .ok (.bipush 114, 2) := dk_16 114 (dk_at dksX10_wordOf_12 18 rfl rfl)
theorem dX10_wordOf_371 : decode cX10_wordOf 371 = .ok (.iconst 0, 1) := dk_3 (dk_at dksX10_wordOf_12 20 rfl rfl)
theorem dX10_wordOf_372 : decode cX10_wordOf 372 = .ok (.iconst 0, 1) := dk_3 (dk_at dksX10_wordOf_12 21 rfl rfl)
theorem dX10_wordOf_373 : decode cX10_wordOf 373 = .ok (.invokestatic 159, 3) := dk_184 0 159 (dk_at dksX10_wordOf_13 0 rfl rfl)
theorem dX10_wordOf_376 : decode cX10_wordOf 376 = .ok (.lreturn, 1) := dk_173 (dk_at dksX10_wordOf_13 3 rfl rfl)
theorem dX10_wordOf_377 : decode cX10_wordOf 377 = .ok (.bipush 97, 2) := dk_16 97 (dk_at dksX10_wordOf_13 4 rfl rfl)
theorem dX10_wordOf_379 : decode cX10_wordOf 379 = .ok (.bipush 110, 2) := dk_16 110 (dk_at dksX10_wordOf_13 6 rfl rfl)
theorem dX10_wordOf_381 : decode cX10_wordOf 381 = .ok (.bipush 100, 2) := dk_16 100 (dk_at dksX10_wordOf_13 8 rfl rfl)
theorem dX10_wordOf_383 : decode cX10_wordOf 383 = .ok (.iconst 0, 1) := dk_3 (dk_at dksX10_wordOf_13 10 rfl rfl)
theorem dX10_wordOf_384 : decode cX10_wordOf 384 = .ok (.invokestatic 159, 3) := dk_184 0 159 (dk_at dksX10_wordOf_13 11 rfl rfl)
theorem dX10_wordOf_387 : decode cX10_wordOf 387 = .ok (.lreturn, 1) := dk_173 (dk_at dksX10_wordOf_13 14 rfl rfl)
theorem dX10_wordOf_388 : decode cX10_wordOf 388 = .ok (.bipush 110, 2) := dk_16 110 (dk_at dksX10_wordOf_13 15 rfl rfl)
theorem dX10_wordOf_390 : decode cX10_wordOf 390 = .ok (.bipush 111, 2) := dk_16 111 (dk_at dksX10_wordOf_13 17 rfl rfl)
theorem dX10_wordOf_392 : decode cX10_wordOf 392 = .ok (.bipush 116, 2) := dk_16 116 (dk_at dksX10_wordOf_13 19 rfl rfl)
theorem dX10_wordOf_394 : decode cX10_wordOf 394 = .ok (.iconst 0, 1) := dk_3 (dk_at dksX10_wordOf_13 21 rfl rfl)
theorem dX10_wordOf_395 : decode cX10_wordOf 395 = .ok (.invokestatic 159, 3) := dk_184 0 159 (dk_at dksX10_wordOf_14 0 rfl rfl)
theorem dX10_wordOf_398 : decode cX10_wordOf 398 = .ok (.lreturn, 1) := dk_173 (dk_at dksX10_wordOf_14 3 rfl rfl)
theorem dX10_wordOf_399 : decode cX10_wordOf 399 = .ok (.bipush 102, 2) := dk_16 102 (dk_at dksX10_wordOf_14 4 rfl rfl)
theorem dX10_wordOf_401 : decode cX10_wordOf 401 = .ok (.bipush 105, 2) := dk_16 105 (dk_at dksX10_wordOf_14 6 rfl rfl)
theorem dX10_wordOf_403 : decode cX10_wordOf 403 = .ok (.bipush 116, 2) := dk_16 116 (dk_at dksX10_wordOf_14 8 rfl rfl)
theorem dX10_wordOf_405 : decode cX10_wordOf 405 = .ok (.iconst 0, 1) := dk_3 (dk_at dksX10_wordOf_14 10 rfl rfl)
theorem dX10_wordOf_406 : decode cX10_wordOf 406 = .ok (.invokestatic 159, 3) := dk_184 0 159 (dk_at dksX10_wordOf_14 11 rfl rfl)
theorem dX10_wordOf_409 : decode cX10_wordOf 409 = .ok (.lreturn, 1) := dk_173 (dk_at dksX10_wordOf_14 14 rfl rfl)
theorem dX10_wordOf_410 : decode cX10_wordOf 410 = .ok (.bipush 97, 2) := dk_16 97 (dk_at dksX10_wordOf_14 15 rfl rfl)
theorem dX10_wordOf_412 : decode cX10_wordOf 412 = .ok (.bipush 116, 2) := dk_16 116 (dk_at dksX10_wordOf_14 17 rfl rfl)
theorem dX10_wordOf_414 : decode cX10_wordOf 414 = .ok (.iconst 0, 1) := dk_3 (dk_at dksX10_wordOf_14 19 rfl rfl)
theorem dX10_wordOf_415 : decode cX10_wordOf 415 = .ok (.iconst 0, 1) := dk_3 (dk_at dksX10_wordOf_14 20 rfl rfl)
theorem dX10_wordOf_416 : decode cX10_wordOf 416 = .ok (.invokestatic 159, 3) := dk_184 0 159 (dk_at dksX10_wordOf_14 21 rfl rfl)
theorem dX10_wordOf_419 : decode cX10_wordOf 419 = .ok (.lreturn, 1) := dk_173 (dk_at dksX10_wordOf_15 0 rfl rfl)
theorem dX10_wordOf_420 : decode cX10_wordOf 420 = .ok (.bipush 98, 2) := dk_16 98 (dk_at dksX10_wordOf_15 1 rfl rfl)
theorem dX10_wordOf_422 : decode cX10_wordOf 422 = .ok (.bipush 105, 2) := dk_16 105 (dk_at dksX10_wordOf_15 3 rfl rfl)
theorem dX10_wordOf_424 : decode cX10_wordOf 424 = .ok (.bipush 116, 2) := dk_16 116 (dk_at dksX10_wordOf_15 5 rfl rfl)
theorem dX10_wordOf_426 : decode cX10_wordOf 426 = .ok (.bipush 101, 2) := dk_16 101 (dk_at dksX10_wordOf_15 7 rfl rfl)
theorem dX10_wordOf_428 : decode cX10_wordOf 428 = .ok (.invokestatic 159, 3) := dk_184 0 159 (dk_at dksX10_wordOf_15 9 rfl rfl)
theorem dX10_wordOf_431 : decode cX10_wordOf 431 = .ok (.bipush 115, 2) := dk_16 115 (dk_at dksX10_wordOf_15 12 rfl rfl)
theorem dX10_wordOf_433 : decode cX10_wordOf 433 = .ok (.iconst 0, 1) := dk_3 (dk_at dksX10_wordOf_15 14 rfl rfl)
theorem dX10_wordOf_434 : decode cX10_wordOf 434 = .ok (.iconst 0, 1) := dk_3 (dk_at dksX10_wordOf_15 15 rfl rfl)
theorem dX10_wordOf_435 : decode cX10_wordOf 435 = .ok (.invokestatic 163, 3) := dk_184 0 163 (dk_at dksX10_wordOf_15 16 rfl rfl)
theorem dX10_wordOf_438 : decode cX10_wordOf 438 = .ok (.lreturn, 1) := dk_173 (dk_at dksX10_wordOf_15 19 rfl rfl)
theorem dX10_wordOf_439 : decode cX10_wordOf 439 = .ok (.bipush 97, 2) := dk_16 97 (dk_at dksX10_wordOf_15 20 rfl rfl)
theorem dX10_wordOf_441 : decode cX10_wordOf 441 = .ok (.bipush 110, 2) := dk_16 110 (dk_at dksX10_wordOf_15 22 rfl rfl)
theorem dX10_wordOf_443 : decode cX10_wordOf 443 = .ok (.bipush 103, 2) := dk_16 103 (dk_at dksX10_wordOf_16 0 rfl rfl)
theorem dX10_wordOf_445 : decode cX10_wordOf 445 = .ok (.bipush 108, 2) := dk_16 108 (dk_at dksX10_wordOf_16 2 rfl rfl)
theorem dX10_wordOf_447 : decode cX10_wordOf 447 = .ok (.invokestatic 159, 3) := dk_184 0 159 (dk_at dksX10_wordOf_16 4 rfl rfl)
theorem dX10_wordOf_450 : decode cX10_wordOf 450 = .ok (.bipush 101, 2) := dk_16 101 (dk_at dksX10_wordOf_16 7 rfl rfl)
theorem dX10_wordOf_452 : decode cX10_wordOf 452 = .ok (.iconst 0, 1) := dk_3 (dk_at dksX10_wordOf_16 9 rfl rfl)
theorem dX10_wordOf_453 : decode cX10_wordOf 453 = .ok (.iconst 0, 1) := dk_3 (dk_at dksX10_wordOf_16 10 rfl rfl)
theorem dX10_wordOf_454 : decode cX10_wordOf 454 = .ok (.invokestatic 163, 3) := dk_184 0 163 (dk_at dksX10_wordOf_16 11 rfl rfl)
theorem dX10_wordOf_457 : decode cX10_wordOf 457 = .ok (.lreturn, 1) := dk_173 (dk_at dksX10_wordOf_16 14 rfl rfl)
theorem dX10_wordOf_458 : decode cX10_wordOf 458 = .ok (.bipush 108, 2) := dk_16 108 (dk_at dksX10_wordOf_16 15 rfl rfl)
theorem dX10_wordOf_460 : decode cX10_wordOf 460 = .ok (.bipush 101, 2) := dk_16 101 (dk_at dksX10_wordOf_16 17 rfl rfl)
theorem dX10_wordOf_462 : decode cX10_wordOf 462 = .ok (.bipush 110, 2) := dk_16 110 (dk_at dksX10_wordOf_16 19 rfl rfl)
theorem dX10_wordOf_464 : decode cX10_wordOf 464 = .ok (.bipush 103, 2) := dk_16 103 (dk_at dksX10_wordOf_16 21 rfl rfl)
theorem dX10_wordOf_466 : decode cX10_wordOf 466 = .ok (.invokestatic 159, 3) := dk_184 0 159 (dk_at dksX10_wordOf_17 0 rfl rfl)
theorem dX10_wordOf_469 : decode cX10_wordOf 469 = .ok (.bipush 116, 2) := dk_16 116 (dk_at dksX10_wordOf_17 3 rfl rfl)
theorem dX10_wordOf_471 : decode cX10_wordOf 471 = .ok (.bipush 104, 2) := dk_16 104 (dk_at dksX10_wordOf_17 5 rfl rfl)
theorem dX10_wordOf_473 : decode cX10_wordOf 473 = .ok (.iconst 0, 1) := dk_3 (dk_at dksX10_wordOf_17 7 rfl rfl)
theorem dX10_wordOf_474 : decode cX10_wordOf 474 = .ok (.invokestatic 163, 3) := dk_184 0 163 (dk_at dksX10_wordOf_17 8 rfl rfl)
theorem dX10_wordOf_477 : decode cX10_wordOf 477 = .ok (.lreturn, 1) := dk_173 (dk_at dksX10_wordOf_17 11 rfl rfl)
theorem dX10_wordOf_478 : decode cX10_wordOf 478 = .ok (.bipush 115, 2) := dk_16 115 (dk_at dksX10_wordOf_17 12 rfl rfl)
theorem dX10_wordOf_480 : decode cX10_wordOf 480 = .ok (.bipush 119, 2) := dk_16 119 (dk_at dksX10_wordOf_17 14 rfl rfl)
theorem dX10_wordOf_482 : decode cX10_wordOf 482 = .ok (.bipush 101, 2) := dk_16 101 (dk_at dksX10_wordOf_17 16 rfl rfl)
theorem dX10_wordOf_484 : decode cX10_wordOf 484 = .ok (.bipush 101, 2) := dk_16 101 (dk_at dksX10_wordOf_17 18 rfl rfl)
theorem dX10_wordOf_486 : decode cX10_wordOf 486 = .ok (.invokestatic 159, 3) := dk_184 0 159 (dk_at dksX10_wordOf_17 20 rfl rfl)
theorem dX10_wordOf_489 : decode cX10_wordOf 489 = .ok (.bipush 112, 2) := dk_16 112 (dk_at dksX10_wordOf_18 0 rfl rfl)
theorem dX10_wordOf_491 : decode cX10_wordOf 491 = .ok (.bipush 115, 2) := dk_16 115 (dk_at dksX10_wordOf_18 2 rfl rfl)
theorem dX10_wordOf_493 : decode cX10_wordOf 493 = .ok (.iconst 0, 1) := dk_3 (dk_at dksX10_wordOf_18 4 rfl rfl)
theorem dX10_wordOf_494 : decode cX10_wordOf 494 = .ok (.invokestatic 163, 3) := dk_184 0 163 (dk_at dksX10_wordOf_18 5 rfl rfl)
theorem dX10_wordOf_497 : decode cX10_wordOf 497 = .ok (.lreturn, 1) := dk_173 (dk_at dksX10_wordOf_18 8 rfl rfl)
theorem dn_X10_wordOf : yX10_wordOf.cls ≠ "java/lang/invoke/MethodHandle" ∧ yX10_wordOf.cls ≠ "java/lang/invoke/VarHandle" ∧ (parseMethodDescriptor yX10_wordOf.desc).map (fun d => d.parameters.length) = some 1 := by decide +kernel
noncomputable def M_X10_wordOf (p1 : Int32) : TM Int64 := if p1 = 0 then TM.bind (M_X10_spelt 114 111 119 0) (fun v39 => TM.pure v39) else if p1 = 1 then TM.bind (M_X10_spelt 100 111 111 114) (fun v38 => TM.pure v38) else if p1 = 2 then TM.bind (M_X10_spelt 100 114 97 117) (fun v36 => TM.bind (M_X10_on v36 103 104 116) (fun v37 => TM.pure v37)) else if p1 = 3 then TM.bind (M_X10_spelt 98 101 100 0) (fun v35 => TM.pure v35) else if p1 = 4 then TM.bind (M_X10_spelt 97 108 111 110) (fun v33 => TM.bind (M_X10_on v33 103 0 0) (fun v34 => TM.pure v34)) else if p1 = 5 then TM.bind (M_X10_spelt 97 99 114 111) (fun v31 => TM.bind (M_X10_on v31 115 115 0) (fun v32 => TM.pure v32)) else if p1 = 6 then TM.bind (M_X10_spelt 109 97 121 0) (fun v30 => TM.pure v30) else if p1 = 7 then TM.bind (M_X10_spelt 99 111 115 116) (fun v28 => TM.bind (M_X10_on v28 115 0 0) (fun v29 => TM.pure v29)) else if p1 = 8 then TM.bind (M_X10_spelt 119 104 111 108) (fun v26 => TM.bind (M_X10_on v26 101 0 0) (fun v27 => TM.pure v27)) else if p1 = 9 then TM.bind (M_X10_spelt 103 111 0 0) (fun v25 => TM.pure v25) else if p1 = 10 then TM.bind (M_X10_spelt 111 112 101 110) (fun v24 => TM.pure v24) else if p1 = 11 then TM.bind (M_X10_spelt 115 104 117 116) (fun v23 => TM.pure v23) else if p1 = 12 then TM.bind (M_X10_spelt 119 97 105 116) (fun v22 => TM.pure v22) else if p1 = 13 then TM.bind (M_X10_spelt 110 111 114 116) (fun v20 => TM.bind (M_X10_on v20 104 0 0) (fun v21 => TM.pure v21)) else if p1 = 14 then TM.bind (M_X10_spelt 101 97 115 116) (fun v19 => TM.pure v19) else if p1 = 15 then TM.bind (M_X10_spelt 115 111 117 116) (fun v17 => TM.bind (M_X10_on v17 104 0 0) (fun v18 => TM.pure v18)) else if p1 = 16 then TM.bind (M_X10_spelt 119 101 115 116) (fun v16 => TM.pure v16) else if p1 = 17 then TM.bind (M_X10_spelt 111 114 0 0) (fun v15 => TM.pure v15) else if p1 = 18 then TM.bind (M_X10_spelt 97 110 100 0) (fun v14 => TM.pure v14) else if p1 = 19 then TM.bind (M_X10_spelt 110 111 116 0) (fun v13 => TM.pure v13) else if p1 = 20 then TM.bind (M_X10_spelt 102 105 116 0) (fun v12 => TM.pure v12) else if p1 = 21 then TM.bind (M_X10_spelt 97 116 0 0) (fun v11 => TM.pure v11) else if p1 = 22 then TM.bind (M_X10_spelt 98 105 116 101) (fun v9 => TM.bind (M_X10_on v9 115 0 0) (fun v10 => TM.pure v10)) else if p1 = 23 then TM.bind (M_X10_spelt 97 110 103 108) (fun v7 => TM.bind (M_X10_on v7 101 0 0) (fun v8 => TM.pure v8)) else if p1 = 24 then TM.bind (M_X10_spelt 108 101 110 103) (fun v5 => TM.bind (M_X10_on v5 116 104 0) (fun v6 => TM.pure v6)) else TM.bind (M_X10_spelt 115 119 101 101) (fun v3 => TM.bind (M_X10_on v3 112 115 0) (fun v4 => TM.pure v4))
set_option maxHeartbeats 4000000 in
theorem ct_X10_wordOf (G : gG) (am : Nat) (p1 : Int32) : gCtM G am yX10_wordOf cX10_wordOf 1 (some .long) 1 26 [.int p1] (M_X10_wordOf p1) (fun x : Int64 => some (.long x)) := by
  refine gCtM.of (by decide) (Nat.le_of_ble_eq_true rfl) (fun K hn ms ms' r hG X hK hd ho => ?_)
  subst hG
  have X : gX K cX10_wordOf 1 "BitingDoorsModel" "wordOf" (some .long) 1 26 := X
  show V K 1 (mkM am hn ms) 0 [(0, .int p1)] []
  unfold M_X10_wordOf at hd
  refine v_iload_n X dX10_wordOf_0 0 0 rfl rfl ?_
  by_cases q0 : p1 = 0
  · have hd := Tite_t q0 hd
    refine v_tableIn (k := 0) (off := 115) (tgt := 116) X dX10_wordOf_1 q0 (by decide) (by decide) rfl (by decide) ?_
    refine v_bipush (v := 114) X dX10_wordOf_116 (by decide) ?_
    refine v_bipush (v := 111) X dX10_wordOf_118 (by decide) ?_
    refine v_bipush (v := 119) X dX10_wordOf_120 (by decide) ?_
    refine v_iconst (v := 0) X dX10_wordOf_122 (by decide) ?_
    refine t_callS X hK hd (ct_X10_spelt _ am 114 111 119 0) (lw_S q1903 q1904 q120 q1905) dn_X10_spelt rfl ⟨by decide, by decide⟩ rfl (Nat.le_of_ble_eq_true rfl) dX10_wordOf_123 (fun v39 ms hd => ?_)
    show V K 1 (mkM am hn ms) 126 [(0, .int p1)] [.long v39]
    exact t_lret X hK hd ho dX10_wordOf_126
  · have hd := Tite_f q0 hd
    by_cases q1 : p1 = 1
    · have hd := Tite_t q1 hd
      refine v_tableIn (k := 1) (off := 126) (tgt := 127) X dX10_wordOf_1 q1 (by decide) (by decide) rfl (by decide) ?_
      refine v_bipush (v := 100) X dX10_wordOf_127 (by decide) ?_
      refine v_bipush (v := 111) X dX10_wordOf_129 (by decide) ?_
      refine v_bipush (v := 111) X dX10_wordOf_131 (by decide) ?_
      refine v_bipush (v := 114) X dX10_wordOf_133 (by decide) ?_
      refine t_callS X hK hd (ct_X10_spelt _ am 100 111 111 114) (lw_S q1903 q1904 q120 q1905) dn_X10_spelt rfl ⟨by decide, by decide⟩ rfl (Nat.le_of_ble_eq_true rfl) dX10_wordOf_135 (fun v38 ms hd => ?_)
      show V K 1 (mkM am hn ms) 138 [(0, .int p1)] [.long v38]
      exact t_lret X hK hd ho dX10_wordOf_138
    · have hd := Tite_f q1 hd
      by_cases q2 : p1 = 2
      · have hd := Tite_t q2 hd
        refine v_tableIn (k := 2) (off := 138) (tgt := 139) X dX10_wordOf_1 q2 (by decide) (by decide) rfl (by decide) ?_
        refine v_bipush (v := 100) X dX10_wordOf_139 (by decide) ?_
        refine v_bipush (v := 114) X dX10_wordOf_141 (by decide) ?_
        refine v_bipush (v := 97) X dX10_wordOf_143 (by decide) ?_
        refine v_bipush (v := 117) X dX10_wordOf_145 (by decide) ?_
        refine t_callS X hK hd (ct_X10_spelt _ am 100 114 97 117) (lw_S q1903 q1904 q120 q1905) dn_X10_spelt rfl ⟨by decide, by decide⟩ rfl (Nat.le_of_ble_eq_true rfl) dX10_wordOf_147 (fun v36 ms hd => ?_)
        show V K 1 (mkM am hn ms) 150 [(0, .int p1)] [.long v36]
        refine v_bipush (v := 103) X dX10_wordOf_150 (by decide) ?_
        refine v_bipush (v := 104) X dX10_wordOf_152 (by decide) ?_
        refine v_bipush (v := 116) X dX10_wordOf_154 (by decide) ?_
        refine t_callS X hK hd (ct_X10_on _ am v36 103 104 116) (lw_S q1906 q1907 q120 q1908) dn_X10_on rfl ⟨by decide, by decide⟩ rfl (Nat.le_of_ble_eq_true rfl) dX10_wordOf_156 (fun v37 ms hd => ?_)
        show V K 1 (mkM am hn ms) 159 [(0, .int p1)] [.long v37]
        exact t_lret X hK hd ho dX10_wordOf_159
      · have hd := Tite_f q2 hd
        by_cases q3 : p1 = 3
        · have hd := Tite_t q3 hd
          refine v_tableIn (k := 3) (off := 159) (tgt := 160) X dX10_wordOf_1 q3 (by decide) (by decide) rfl (by decide) ?_
          refine v_bipush (v := 98) X dX10_wordOf_160 (by decide) ?_
          refine v_bipush (v := 101) X dX10_wordOf_162 (by decide) ?_
          refine v_bipush (v := 100) X dX10_wordOf_164 (by decide) ?_
          refine v_iconst (v := 0) X dX10_wordOf_166 (by decide) ?_
          refine t_callS X hK hd (ct_X10_spelt _ am 98 101 100 0) (lw_S q1903 q1904 q120 q1905) dn_X10_spelt rfl ⟨by decide, by decide⟩ rfl (Nat.le_of_ble_eq_true rfl) dX10_wordOf_167 (fun v35 ms hd => ?_)
          show V K 1 (mkM am hn ms) 170 [(0, .int p1)] [.long v35]
          exact t_lret X hK hd ho dX10_wordOf_170
        · have hd := Tite_f q3 hd
          by_cases q4 : p1 = 4
          · have hd := Tite_t q4 hd
            refine v_tableIn (k := 4) (off := 170) (tgt := 171) X dX10_wordOf_1 q4 (by decide) (by decide) rfl (by decide) ?_
            refine v_bipush (v := 97) X dX10_wordOf_171 (by decide) ?_
            refine v_bipush (v := 108) X dX10_wordOf_173 (by decide) ?_
            refine v_bipush (v := 111) X dX10_wordOf_175 (by decide) ?_
            refine v_bipush (v := 110) X dX10_wordOf_177 (by decide) ?_
            refine t_callS X hK hd (ct_X10_spelt _ am 97 108 111 110) (lw_S q1903 q1904 q120 q1905) dn_X10_spelt rfl ⟨by decide, by decide⟩ rfl (Nat.le_of_ble_eq_true rfl) dX10_wordOf_179 (fun v33 ms hd => ?_)
            show V K 1 (mkM am hn ms) 182 [(0, .int p1)] [.long v33]
            refine v_bipush (v := 103) X dX10_wordOf_182 (by decide) ?_
            refine v_iconst (v := 0) X dX10_wordOf_184 (by decide) ?_
            refine v_iconst (v := 0) X dX10_wordOf_185 (by decide) ?_
            refine t_callS X hK hd (ct_X10_on _ am v33 103 0 0) (lw_S q1906 q1907 q120 q1908) dn_X10_on rfl ⟨by decide, by decide⟩ rfl (Nat.le_of_ble_eq_true rfl) dX10_wordOf_186 (fun v34 ms hd => ?_)
            show V K 1 (mkM am hn ms) 189 [(0, .int p1)] [.long v34]
            exact t_lret X hK hd ho dX10_wordOf_189
          · have hd := Tite_f q4 hd
            by_cases q5 : p1 = 5
            · have hd := Tite_t q5 hd
              refine v_tableIn (k := 5) (off := 189) (tgt := 190) X dX10_wordOf_1 q5 (by decide) (by decide) rfl (by decide) ?_
              refine v_bipush (v := 97) X dX10_wordOf_190 (by decide) ?_
              refine v_bipush (v := 99) X dX10_wordOf_192 (by decide) ?_
              refine v_bipush (v := 114) X dX10_wordOf_194 (by decide) ?_
              refine v_bipush (v := 111) X dX10_wordOf_196 (by decide) ?_
              refine t_callS X hK hd (ct_X10_spelt _ am 97 99 114 111) (lw_S q1903 q1904 q120 q1905) dn_X10_spelt rfl ⟨by decide, by decide⟩ rfl (Nat.le_of_ble_eq_true rfl) dX10_wordOf_198 (fun v31 ms hd => ?_)
              show V K 1 (mkM am hn ms) 201 [(0, .int p1)] [.long v31]
              refine v_bipush (v := 115) X dX10_wordOf_201 (by decide) ?_
              refine v_bipush (v := 115) X dX10_wordOf_203 (by decide) ?_
              refine v_iconst (v := 0) X dX10_wordOf_205 (by decide) ?_
              refine t_callS X hK hd (ct_X10_on _ am v31 115 115 0) (lw_S q1906 q1907 q120 q1908) dn_X10_on rfl ⟨by decide, by decide⟩ rfl (Nat.le_of_ble_eq_true rfl) dX10_wordOf_206 (fun v32 ms hd => ?_)
              show V K 1 (mkM am hn ms) 209 [(0, .int p1)] [.long v32]
              exact t_lret X hK hd ho dX10_wordOf_209
            · have hd := Tite_f q5 hd
              by_cases q6 : p1 = 6
              · have hd := Tite_t q6 hd
                refine v_tableIn (k := 6) (off := 209) (tgt := 210) X dX10_wordOf_1 q6 (by decide) (by decide) rfl (by decide) ?_
                refine v_bipush (v := 109) X dX10_wordOf_210 (by decide) ?_
                refine v_bipush (v := 97) X dX10_wordOf_212 (by decide) ?_
                refine v_bipush (v := 121) X dX10_wordOf_214 (by decide) ?_
                refine v_iconst (v := 0) X dX10_wordOf_216 (by decide) ?_
                refine t_callS X hK hd (ct_X10_spelt _ am 109 97 121 0) (lw_S q1903 q1904 q120 q1905) dn_X10_spelt rfl ⟨by decide, by decide⟩ rfl (Nat.le_of_ble_eq_true rfl) dX10_wordOf_217 (fun v30 ms hd => ?_)
                show V K 1 (mkM am hn ms) 220 [(0, .int p1)] [.long v30]
                exact t_lret X hK hd ho dX10_wordOf_220
              · have hd := Tite_f q6 hd
                by_cases q7 : p1 = 7
                · have hd := Tite_t q7 hd
                  refine v_tableIn (k := 7) (off := 220) (tgt := 221) X dX10_wordOf_1 q7 (by decide) (by decide) rfl (by decide) ?_
                  refine v_bipush (v := 99) X dX10_wordOf_221 (by decide) ?_
                  refine v_bipush (v := 111) X dX10_wordOf_223 (by decide) ?_
                  refine v_bipush (v := 115) X dX10_wordOf_225 (by decide) ?_
                  refine v_bipush (v := 116) X dX10_wordOf_227 (by decide) ?_
                  refine t_callS X hK hd (ct_X10_spelt _ am 99 111 115 116) (lw_S q1903 q1904 q120 q1905) dn_X10_spelt rfl ⟨by decide, by decide⟩ rfl (Nat.le_of_ble_eq_true rfl) dX10_wordOf_229 (fun v28 ms hd => ?_)
                  show V K 1 (mkM am hn ms) 232 [(0, .int p1)] [.long v28]
                  refine v_bipush (v := 115) X dX10_wordOf_232 (by decide) ?_
                  refine v_iconst (v := 0) X dX10_wordOf_234 (by decide) ?_
                  refine v_iconst (v := 0) X dX10_wordOf_235 (by decide) ?_
                  refine t_callS X hK hd (ct_X10_on _ am v28 115 0 0) (lw_S q1906 q1907 q120 q1908) dn_X10_on rfl ⟨by decide, by decide⟩ rfl (Nat.le_of_ble_eq_true rfl) dX10_wordOf_236 (fun v29 ms hd => ?_)
                  show V K 1 (mkM am hn ms) 239 [(0, .int p1)] [.long v29]
                  exact t_lret X hK hd ho dX10_wordOf_239
                · have hd := Tite_f q7 hd
                  by_cases q8 : p1 = 8
                  · have hd := Tite_t q8 hd
                    refine v_tableIn (k := 8) (off := 239) (tgt := 240) X dX10_wordOf_1 q8 (by decide) (by decide) rfl (by decide) ?_
                    refine v_bipush (v := 119) X dX10_wordOf_240 (by decide) ?_
                    refine v_bipush (v := 104) X dX10_wordOf_242 (by decide) ?_
                    refine v_bipush (v := 111) X dX10_wordOf_244 (by decide) ?_
                    refine v_bipush (v := 108) X dX10_wordOf_246 (by decide) ?_
                    refine t_callS X hK hd (ct_X10_spelt _ am 119 104 111 108) (lw_S q1903 q1904 q120 q1905) dn_X10_spelt rfl ⟨by decide, by decide⟩ rfl (Nat.le_of_ble_eq_true rfl) dX10_wordOf_248 (fun v26 ms hd => ?_)
                    show V K 1 (mkM am hn ms) 251 [(0, .int p1)] [.long v26]
                    refine v_bipush (v := 101) X dX10_wordOf_251 (by decide) ?_
                    refine v_iconst (v := 0) X dX10_wordOf_253 (by decide) ?_
                    refine v_iconst (v := 0) X dX10_wordOf_254 (by decide) ?_
                    refine t_callS X hK hd (ct_X10_on _ am v26 101 0 0) (lw_S q1906 q1907 q120 q1908) dn_X10_on rfl ⟨by decide, by decide⟩ rfl (Nat.le_of_ble_eq_true rfl) dX10_wordOf_255 (fun v27 ms hd => ?_)
                    show V K 1 (mkM am hn ms) 258 [(0, .int p1)] [.long v27]
                    exact t_lret X hK hd ho dX10_wordOf_258
                  · have hd := Tite_f q8 hd
                    by_cases q9 : p1 = 9
                    · have hd := Tite_t q9 hd
                      refine v_tableIn (k := 9) (off := 258) (tgt := 259) X dX10_wordOf_1 q9 (by decide) (by decide) rfl (by decide) ?_
                      refine v_bipush (v := 103) X dX10_wordOf_259 (by decide) ?_
                      refine v_bipush (v := 111) X dX10_wordOf_261 (by decide) ?_
                      refine v_iconst (v := 0) X dX10_wordOf_263 (by decide) ?_
                      refine v_iconst (v := 0) X dX10_wordOf_264 (by decide) ?_
                      refine t_callS X hK hd (ct_X10_spelt _ am 103 111 0 0) (lw_S q1903 q1904 q120 q1905) dn_X10_spelt rfl ⟨by decide, by decide⟩ rfl (Nat.le_of_ble_eq_true rfl) dX10_wordOf_265 (fun v25 ms hd => ?_)
                      show V K 1 (mkM am hn ms) 268 [(0, .int p1)] [.long v25]
                      exact t_lret X hK hd ho dX10_wordOf_268
                    · have hd := Tite_f q9 hd
                      by_cases q10 : p1 = 10
                      · have hd := Tite_t q10 hd
                        refine v_tableIn (k := 10) (off := 268) (tgt := 269) X dX10_wordOf_1 q10 (by decide) (by decide) rfl (by decide) ?_
                        refine v_bipush (v := 111) X dX10_wordOf_269 (by decide) ?_
                        refine v_bipush (v := 112) X dX10_wordOf_271 (by decide) ?_
                        refine v_bipush (v := 101) X dX10_wordOf_273 (by decide) ?_
                        refine v_bipush (v := 110) X dX10_wordOf_275 (by decide) ?_
                        refine t_callS X hK hd (ct_X10_spelt _ am 111 112 101 110) (lw_S q1903 q1904 q120 q1905) dn_X10_spelt rfl ⟨by decide, by decide⟩ rfl (Nat.le_of_ble_eq_true rfl) dX10_wordOf_277 (fun v24 ms hd => ?_)
                        show V K 1 (mkM am hn ms) 280 [(0, .int p1)] [.long v24]
                        exact t_lret X hK hd ho dX10_wordOf_280
                      · have hd := Tite_f q10 hd
                        by_cases q11 : p1 = 11
                        · have hd := Tite_t q11 hd
                          refine v_tableIn (k := 11) (off := 280) (tgt := 281) X dX10_wordOf_1 q11 (by decide) (by decide) rfl (by decide) ?_
                          refine v_bipush (v := 115) X dX10_wordOf_281 (by decide) ?_
                          refine v_bipush (v := 104) X dX10_wordOf_283 (by decide) ?_
                          refine v_bipush (v := 117) X dX10_wordOf_285 (by decide) ?_
                          refine v_bipush (v := 116) X dX10_wordOf_287 (by decide) ?_
                          refine t_callS X hK hd (ct_X10_spelt _ am 115 104 117 116) (lw_S q1903 q1904 q120 q1905) dn_X10_spelt rfl ⟨by decide, by decide⟩ rfl (Nat.le_of_ble_eq_true rfl) dX10_wordOf_289 (fun v23 ms hd => ?_)
                          show V K 1 (mkM am hn ms) 292 [(0, .int p1)] [.long v23]
                          exact t_lret X hK hd ho dX10_wordOf_292
                        · have hd := Tite_f q11 hd
                          by_cases q12 : p1 = 12
                          · have hd := Tite_t q12 hd
                            refine v_tableIn (k := 12) (off := 292) (tgt := 293) X dX10_wordOf_1 q12 (by decide) (by decide) rfl (by decide) ?_
                            refine v_bipush (v := 119) X dX10_wordOf_293 (by decide) ?_
                            refine v_bipush (v := 97) X dX10_wordOf_295 (by decide) ?_
                            refine v_bipush (v := 105) X dX10_wordOf_297 (by decide) ?_
                            refine v_bipush (v := 116) X dX10_wordOf_299 (by decide) ?_
                            refine t_callS X hK hd (ct_X10_spelt _ am 119 97 105 116) (lw_S q1903 q1904 q120 q1905) dn_X10_spelt rfl ⟨by decide, by decide⟩ rfl (Nat.le_of_ble_eq_true rfl) dX10_wordOf_301 (fun v22 ms hd => ?_)
                            show V K 1 (mkM am hn ms) 304 [(0, .int p1)] [.long v22]
                            exact t_lret X hK hd ho dX10_wordOf_304
                          · have hd := Tite_f q12 hd
                            by_cases q13 : p1 = 13
                            · have hd := Tite_t q13 hd
                              refine v_tableIn (k := 13) (off := 304) (tgt := 305) X dX10_wordOf_1 q13 (by decide) (by decide) rfl (by decide) ?_
                              refine v_bipush (v := 110) X dX10_wordOf_305 (by decide) ?_
                              refine v_bipush (v := 111) X dX10_wordOf_307 (by decide) ?_
                              refine v_bipush (v := 114) X dX10_wordOf_309 (by decide) ?_
                              refine v_bipush (v := 116) X dX10_wordOf_311 (by decide) ?_
                              refine t_callS X hK hd (ct_X10_spelt _ am 110 111 114 116) (lw_S q1903 q1904 q120 q1905) dn_X10_spelt rfl ⟨by decide, by decide⟩ rfl (Nat.le_of_ble_eq_true rfl) dX10_wordOf_313 (fun v20 ms hd => ?_)
                              show V K 1 (mkM am hn ms) 316 [(0, .int p1)] [.long v20]
                              refine v_bipush (v := 104) X dX10_wordOf_316 (by decide) ?_
                              refine v_iconst (v := 0) X dX10_wordOf_318 (by decide) ?_
                              refine v_iconst (v := 0) X dX10_wordOf_319 (by decide) ?_
                              refine t_callS X hK hd (ct_X10_on _ am v20 104 0 0) (lw_S q1906 q1907 q120 q1908) dn_X10_on rfl ⟨by decide, by decide⟩ rfl (Nat.le_of_ble_eq_true rfl) dX10_wordOf_320 (fun v21 ms hd => ?_)
                              show V K 1 (mkM am hn ms) 323 [(0, .int p1)] [.long v21]
                              exact t_lret X hK hd ho dX10_wordOf_323
                            · have hd := Tite_f q13 hd
                              by_cases q14 : p1 = 14
                              · have hd := Tite_t q14 hd
                                refine v_tableIn (k := 14) (off := 323) (tgt := 324) X dX10_wordOf_1 q14 (by decide) (by decide) rfl (by decide) ?_
                                refine v_bipush (v := 101) X dX10_wordOf_324 (by decide) ?_
                                refine v_bipush (v := 97) X dX10_wordOf_326 (by decide) ?_
                                refine v_bipush (v := 115) X dX10_wordOf_328 (by decide) ?_
                                refine v_bipush (v := 116) X dX10_wordOf_330 (by decide) ?_
                                refine t_callS X hK hd (ct_X10_spelt _ am 101 97 115 116) (lw_S q1903 q1904 q120 q1905) dn_X10_spelt rfl ⟨by decide, by decide⟩ rfl (Nat.le_of_ble_eq_true rfl) dX10_wordOf_332 (fun v19 ms hd => ?_)
                                show V K 1 (mkM am hn ms) 335 [(0, .int p1)] [.long v19]
                                exact t_lret X hK hd ho dX10_wordOf_335
                              · have hd := Tite_f q14 hd
                                by_cases q15 : p1 = 15
                                · have hd := Tite_t q15 hd
                                  refine v_tableIn (k := 15) (off := 335) (tgt := 336) X dX10_wordOf_1 q15 (by decide) (by decide) rfl (by decide) ?_
                                  refine v_bipush (v := 115) X dX10_wordOf_336 (by decide) ?_
                                  refine v_bipush (v := 111) X dX10_wordOf_338 (by decide) ?_
                                  refine v_bipush (v := 117) X dX10_wordOf_340 (by decide) ?_
                                  refine v_bipush (v := 116) X dX10_wordOf_342 (by decide) ?_
                                  refine t_callS X hK hd (ct_X10_spelt _ am 115 111 117 116) (lw_S q1903 q1904 q120 q1905) dn_X10_spelt rfl ⟨by decide, by decide⟩ rfl (Nat.le_of_ble_eq_true rfl) dX10_wordOf_344 (fun v17 ms hd => ?_)
                                  show V K 1 (mkM am hn ms) 347 [(0, .int p1)] [.long v17]
                                  refine v_bipush (v := 104) X dX10_wordOf_347 (by decide) ?_
                                  refine v_iconst (v := 0) X dX10_wordOf_349 (by decide) ?_
                                  refine v_iconst (v := 0) X dX10_wordOf_350 (by decide) ?_
                                  refine t_callS X hK hd (ct_X10_on _ am v17 104 0 0) (lw_S q1906 q1907 q120 q1908) dn_X10_on rfl ⟨by decide, by decide⟩ rfl (Nat.le_of_ble_eq_true rfl) dX10_wordOf_351 (fun v18 ms hd => ?_)
                                  show V K 1 (mkM am hn ms) 354 [(0, .int p1)] [.long v18]
                                  exact t_lret X hK hd ho dX10_wordOf_354
                                · have hd := Tite_f q15 hd
                                  by_cases q16 : p1 = 16
                                  · have hd := Tite_t q16 hd
                                    refine v_tableIn (k := 16) (off := 354) (tgt := 355) X dX10_wordOf_1 q16 (by decide) (by decide) rfl (by decide) ?_
                                    refine v_bipush (v := 119) X dX10_wordOf_355 (by decide) ?_
                                    refine v_bipush (v := 101) X dX10_wordOf_357 (by decide) ?_
                                    refine v_bipush (v := 115) X dX10_wordOf_359 (by decide) ?_
                                    refine v_bipush (v := 116) X dX10_wordOf_361 (by decide) ?_
                                    refine t_callS X hK hd (ct_X10_spelt _ am 119 101 115 116) (lw_S q1903 q1904 q120 q1905) dn_X10_spelt rfl ⟨by decide, by decide⟩ rfl (Nat.le_of_ble_eq_true rfl) dX10_wordOf_363 (fun v16 ms hd => ?_)
                                    show V K 1 (mkM am hn ms) 366 [(0, .int p1)] [.long v16]
                                    exact t_lret X hK hd ho dX10_wordOf_366
                                  · have hd := Tite_f q16 hd
                                    by_cases q17 : p1 = 17
                                    · have hd := Tite_t q17 hd
                                      refine v_tableIn (k := 17) (off := 366) (tgt := 367) X dX10_wordOf_1 q17 (by decide) (by decide) rfl (by decide) ?_
                                      refine v_bipush (v := 111) X dX10_wordOf_367 (by decide) ?_
                                      refine v_bipush (v := 114) X dX10_wordOf_369 (by decide) ?_
                                      refine v_iconst (v := 0) X dX10_wordOf_371 (by decide) ?_
                                      refine v_iconst (v := 0) X dX10_wordOf_372 (by decide) ?_
                                      refine t_callS X hK hd (ct_X10_spelt _ am 111 114 0 0) (lw_S q1903 q1904 q120 q1905) dn_X10_spelt rfl ⟨by decide, by decide⟩ rfl (Nat.le_of_ble_eq_true rfl) dX10_wordOf_373 (fun v15 ms hd => ?_)
                                      show V K 1 (mkM am hn ms) 376 [(0, .int p1)] [.long v15]
                                      exact t_lret X hK hd ho dX10_wordOf_376
                                    · have hd := Tite_f q17 hd
                                      by_cases q18 : p1 = 18
                                      · have hd := Tite_t q18 hd
                                        refine v_tableIn (k := 18) (off := 376) (tgt := 377) X dX10_wordOf_1 q18 (by decide) (by decide) rfl (by decide) ?_
                                        refine v_bipush (v := 97) X dX10_wordOf_377 (by decide) ?_
                                        refine v_bipush (v := 110) X dX10_wordOf_379 (by decide) ?_
                                        refine v_bipush (v := 100) X dX10_wordOf_381 (by decide) ?_
                                        refine v_iconst (v := 0) X dX10_wordOf_383 (by decide) ?_
                                        refine t_callS X hK hd (ct_X10_spelt _ am 97 110 100 0) (lw_S q1903 q1904 q120 q1905) dn_X10_spelt rfl ⟨by decide, by decide⟩ rfl (Nat.le_of_ble_eq_true rfl) dX10_wordOf_384 (fun v14 ms hd => ?_)
                                        show V K 1 (mkM am hn ms) 387 [(0, .int p1)] [.long v14]
                                        exact t_lret X hK hd ho dX10_wordOf_387
                                      · have hd := Tite_f q18 hd
                                        by_cases q19 : p1 = 19
                                        · have hd := Tite_t q19 hd
                                          refine v_tableIn (k := 19) (off := 387) (tgt := 388) X dX10_wordOf_1 q19 (by decide) (by decide) rfl (by decide) ?_
                                          refine v_bipush (v := 110) X dX10_wordOf_388 (by decide) ?_
                                          refine v_bipush (v := 111) X dX10_wordOf_390 (by decide) ?_
                                          refine v_bipush (v := 116) X dX10_wordOf_392 (by decide) ?_
                                          refine v_iconst (v := 0) X dX10_wordOf_394 (by decide) ?_
                                          refine t_callS X hK hd (ct_X10_spelt _ am 110 111 116 0) (lw_S q1903 q1904 q120 q1905) dn_X10_spelt rfl ⟨by decide, by decide⟩ rfl (Nat.le_of_ble_eq_true rfl) dX10_wordOf_395 (fun v13 ms hd => ?_)
                                          show V K 1 (mkM am hn ms) 398 [(0, .int p1)] [.long v13]
                                          exact t_lret X hK hd ho dX10_wordOf_398
                                        · have hd := Tite_f q19 hd
                                          by_cases q20 : p1 = 20
                                          · have hd := Tite_t q20 hd
                                            refine v_tableIn (k := 20) (off := 398) (tgt := 399) X dX10_wordOf_1 q20 (by decide) (by decide) rfl (by decide) ?_
                                            refine v_bipush (v := 102) X dX10_wordOf_399 (by decide) ?_
                                            refine v_bipush (v := 105) X dX10_wordOf_401 (by decide) ?_
                                            refine v_bipush (v := 116) X dX10_wordOf_403 (by decide) ?_
                                            refine v_iconst (v := 0) X dX10_wordOf_405 (by decide) ?_
                                            refine t_callS X hK hd (ct_X10_spelt _ am 102 105 116 0) (lw_S q1903 q1904 q120 q1905) dn_X10_spelt rfl ⟨by decide, by decide⟩ rfl (Nat.le_of_ble_eq_true rfl) dX10_wordOf_406 (fun v12 ms hd => ?_)
                                            show V K 1 (mkM am hn ms) 409 [(0, .int p1)] [.long v12]
                                            exact t_lret X hK hd ho dX10_wordOf_409
                                          · have hd := Tite_f q20 hd
                                            by_cases q21 : p1 = 21
                                            · have hd := Tite_t q21 hd
                                              refine v_tableIn (k := 21) (off := 409) (tgt := 410) X dX10_wordOf_1 q21 (by decide) (by decide) rfl (by decide) ?_
                                              refine v_bipush (v := 97) X dX10_wordOf_410 (by decide) ?_
                                              refine v_bipush (v := 116) X dX10_wordOf_412 (by decide) ?_
                                              refine v_iconst (v := 0) X dX10_wordOf_414 (by decide) ?_
                                              refine v_iconst (v := 0) X dX10_wordOf_415 (by decide) ?_
                                              refine t_callS X hK hd (ct_X10_spelt _ am 97 116 0 0) (lw_S q1903 q1904 q120 q1905) dn_X10_spelt rfl ⟨by decide, by decide⟩ rfl (Nat.le_of_ble_eq_true rfl) dX10_wordOf_416 (fun v11 ms hd => ?_)
                                              show V K 1 (mkM am hn ms) 419 [(0, .int p1)] [.long v11]
                                              exact t_lret X hK hd ho dX10_wordOf_419
                                            · have hd := Tite_f q21 hd
                                              by_cases q22 : p1 = 22
                                              · have hd := Tite_t q22 hd
                                                refine v_tableIn (k := 22) (off := 419) (tgt := 420) X dX10_wordOf_1 q22 (by decide) (by decide) rfl (by decide) ?_
                                                refine v_bipush (v := 98) X dX10_wordOf_420 (by decide) ?_
                                                refine v_bipush (v := 105) X dX10_wordOf_422 (by decide) ?_
                                                refine v_bipush (v := 116) X dX10_wordOf_424 (by decide) ?_
                                                refine v_bipush (v := 101) X dX10_wordOf_426 (by decide) ?_
                                                refine t_callS X hK hd (ct_X10_spelt _ am 98 105 116 101) (lw_S q1903 q1904 q120 q1905) dn_X10_spelt rfl ⟨by decide, by decide⟩ rfl (Nat.le_of_ble_eq_true rfl) dX10_wordOf_428 (fun v9 ms hd => ?_)
                                                show V K 1 (mkM am hn ms) 431 [(0, .int p1)] [.long v9]
                                                refine v_bipush (v := 115) X dX10_wordOf_431 (by decide) ?_
                                                refine v_iconst (v := 0) X dX10_wordOf_433 (by decide) ?_
                                                refine v_iconst (v := 0) X dX10_wordOf_434 (by decide) ?_
                                                refine t_callS X hK hd (ct_X10_on _ am v9 115 0 0) (lw_S q1906 q1907 q120 q1908) dn_X10_on rfl ⟨by decide, by decide⟩ rfl (Nat.le_of_ble_eq_true rfl) dX10_wordOf_435 (fun v10 ms hd => ?_)
                                                show V K 1 (mkM am hn ms) 438 [(0, .int p1)] [.long v10]
                                                exact t_lret X hK hd ho dX10_wordOf_438
                                              · have hd := Tite_f q22 hd
                                                by_cases q23 : p1 = 23
                                                · have hd := Tite_t q23 hd
                                                  refine v_tableIn (k := 23) (off := 438) (tgt := 439) X dX10_wordOf_1 q23 (by decide) (by decide) rfl (by decide) ?_
                                                  refine v_bipush (v := 97) X dX10_wordOf_439 (by decide) ?_
                                                  refine v_bipush (v := 110) X dX10_wordOf_441 (by decide) ?_
                                                  refine v_bipush (v := 103) X dX10_wordOf_443 (by decide) ?_
                                                  refine v_bipush (v := 108) X dX10_wordOf_445 (by decide) ?_
                                                  refine t_callS X hK hd (ct_X10_spelt _ am 97 110 103 108) (lw_S q1903 q1904 q120 q1905) dn_X10_spelt rfl ⟨by decide, by decide⟩ rfl (Nat.le_of_ble_eq_true rfl) dX10_wordOf_447 (fun v7 ms hd => ?_)
                                                  show V K 1 (mkM am hn ms) 450 [(0, .int p1)] [.long v7]
                                                  refine v_bipush (v := 101) X dX10_wordOf_450 (by decide) ?_
                                                  refine v_iconst (v := 0) X dX10_wordOf_452 (by decide) ?_
                                                  refine v_iconst (v := 0) X dX10_wordOf_453 (by decide) ?_
                                                  refine t_callS X hK hd (ct_X10_on _ am v7 101 0 0) (lw_S q1906 q1907 q120 q1908) dn_X10_on rfl ⟨by decide, by decide⟩ rfl (Nat.le_of_ble_eq_true rfl) dX10_wordOf_454 (fun v8 ms hd => ?_)
                                                  show V K 1 (mkM am hn ms) 457 [(0, .int p1)] [.long v8]
                                                  exact t_lret X hK hd ho dX10_wordOf_457
                                                · have hd := Tite_f q23 hd
                                                  by_cases q24 : p1 = 24
                                                  · have hd := Tite_t q24 hd
                                                    refine v_tableIn (k := 24) (off := 457) (tgt := 458) X dX10_wordOf_1 q24 (by decide) (by decide) rfl (by decide) ?_
                                                    refine v_bipush (v := 108) X dX10_wordOf_458 (by decide) ?_
                                                    refine v_bipush (v := 101) X dX10_wordOf_460 (by decide) ?_
                                                    refine v_bipush (v := 110) X dX10_wordOf_462 (by decide) ?_
                                                    refine v_bipush (v := 103) X dX10_wordOf_464 (by decide) ?_
                                                    refine t_callS X hK hd (ct_X10_spelt _ am 108 101 110 103) (lw_S q1903 q1904 q120 q1905) dn_X10_spelt rfl ⟨by decide, by decide⟩ rfl (Nat.le_of_ble_eq_true rfl) dX10_wordOf_466 (fun v5 ms hd => ?_)
                                                    show V K 1 (mkM am hn ms) 469 [(0, .int p1)] [.long v5]
                                                    refine v_bipush (v := 116) X dX10_wordOf_469 (by decide) ?_
                                                    refine v_bipush (v := 104) X dX10_wordOf_471 (by decide) ?_
                                                    refine v_iconst (v := 0) X dX10_wordOf_473 (by decide) ?_
                                                    refine t_callS X hK hd (ct_X10_on _ am v5 116 104 0) (lw_S q1906 q1907 q120 q1908) dn_X10_on rfl ⟨by decide, by decide⟩ rfl (Nat.le_of_ble_eq_true rfl) dX10_wordOf_474 (fun v6 ms hd => ?_)
                                                    show V K 1 (mkM am hn ms) 477 [(0, .int p1)] [.long v6]
                                                    exact t_lret X hK hd ho dX10_wordOf_477
                                                  · have hd := Tite_f q24 hd
                                                    have eq0 := lv_neT q0 (k := 0) (a := 0) (by decide)
                                                    have eq1 := lv_neT q1 (k := 1) (a := 1) (by decide)
                                                    have eq2 := lv_neT q2 (k := 2) (a := 2) (by decide)
                                                    have eq3 := lv_neT q3 (k := 3) (a := 3) (by decide)
                                                    have eq4 := lv_neT q4 (k := 4) (a := 4) (by decide)
                                                    have eq5 := lv_neT q5 (k := 5) (a := 5) (by decide)
                                                    have eq6 := lv_neT q6 (k := 6) (a := 6) (by decide)
                                                    have eq7 := lv_neT q7 (k := 7) (a := 7) (by decide)
                                                    have eq8 := lv_neT q8 (k := 8) (a := 8) (by decide)
                                                    have eq9 := lv_neT q9 (k := 9) (a := 9) (by decide)
                                                    have eq10 := lv_neT q10 (k := 10) (a := 10) (by decide)
                                                    have eq11 := lv_neT q11 (k := 11) (a := 11) (by decide)
                                                    have eq12 := lv_neT q12 (k := 12) (a := 12) (by decide)
                                                    have eq13 := lv_neT q13 (k := 13) (a := 13) (by decide)
                                                    have eq14 := lv_neT q14 (k := 14) (a := 14) (by decide)
                                                    have eq15 := lv_neT q15 (k := 15) (a := 15) (by decide)
                                                    have eq16 := lv_neT q16 (k := 16) (a := 16) (by decide)
                                                    have eq17 := lv_neT q17 (k := 17) (a := 17) (by decide)
                                                    have eq18 := lv_neT q18 (k := 18) (a := 18) (by decide)
                                                    have eq19 := lv_neT q19 (k := 19) (a := 19) (by decide)
                                                    have eq20 := lv_neT q20 (k := 20) (a := 20) (by decide)
                                                    have eq21 := lv_neT q21 (k := 21) (a := 21) (by decide)
                                                    have eq22 := lv_neT q22 (k := 22) (a := 22) (by decide)
                                                    have eq23 := lv_neT q23 (k := 23) (a := 23) (by decide)
                                                    have eq24 := lv_neT q24 (k := 24) (a := 24) (by decide)
                                                    refine v_tableOut (tgt := 478) X dX10_wordOf_1 (by omega) (by decide) ?_
                                                    refine v_bipush (v := 115) X dX10_wordOf_478 (by decide) ?_
                                                    refine v_bipush (v := 119) X dX10_wordOf_480 (by decide) ?_
                                                    refine v_bipush (v := 101) X dX10_wordOf_482 (by decide) ?_
                                                    refine v_bipush (v := 101) X dX10_wordOf_484 (by decide) ?_
                                                    refine t_callS X hK hd (ct_X10_spelt _ am 115 119 101 101) (lw_S q1903 q1904 q120 q1905) dn_X10_spelt rfl ⟨by decide, by decide⟩ rfl (Nat.le_of_ble_eq_true rfl) dX10_wordOf_486 (fun v3 ms hd => ?_)
                                                    show V K 1 (mkM am hn ms) 489 [(0, .int p1)] [.long v3]
                                                    refine v_bipush (v := 112) X dX10_wordOf_489 (by decide) ?_
                                                    refine v_bipush (v := 115) X dX10_wordOf_491 (by decide) ?_
                                                    refine v_iconst (v := 0) X dX10_wordOf_493 (by decide) ?_
                                                    refine t_callS X hK hd (ct_X10_on _ am v3 112 115 0) (lw_S q1906 q1907 q120 q1908) dn_X10_on rfl ⟨by decide, by decide⟩ rfl (Nat.le_of_ble_eq_true rfl) dX10_wordOf_494 (fun v4 ms hd => ?_)
                                                    show V K 1 (mkM am hn ms) 497 [(0, .int p1)] [.long v4]
                                                    exact t_lret X hK hd ho dX10_wordOf_497
def dkwX10_isWord_1 : List UInt8 := [3, 172]
abbrev dktX10_isWord_1 : List UInt8 := dkwX10_isWord_1 ++ []
def dkwX10_isWord_0 : List UInt8 := [42, 180, 0, 131, 5, 160, 0, 19, 42, 180, 0, 144, 27, 184, 0, 167, 148, 154, 0, 7, 4, 167, 0, 4]
abbrev dktX10_isWord_0 : List UInt8 := dkwX10_isWord_0 ++ dktX10_isWord_1
theorem dksX10_isWord_0 : cX10_isWord.data.toList.drop 0 = dktX10_isWord_0 := by decide +kernel
theorem dksX10_isWord_1 : cX10_isWord.data.toList.drop 24 = dktX10_isWord_1 := dk_seg dksX10_isWord_0 24 rfl rfl
theorem dX10_isWord_0 : decode cX10_isWord 0 = .ok (.aload_n 0, 1) := dk_42 (dk_at dksX10_isWord_0 0 rfl rfl)
theorem dX10_isWord_1 : decode cX10_isWord 1 = .ok (.getfield 131, 3) := dk_180 0 131 (dk_at dksX10_isWord_0 1 rfl rfl)
theorem dX10_isWord_4 : decode cX10_isWord 4 = .ok (.iconst 2, 1) := dk_5 (dk_at dksX10_isWord_0 4 rfl rfl)
theorem dX10_isWord_5 : decode cX10_isWord 5 = .ok (.if_icmp .ne 19, 3) := dk_160 0 19 (dk_at dksX10_isWord_0 5 rfl rfl)
theorem dX10_isWord_8 : decode cX10_isWord 8 = .ok (.aload_n 0, 1) := dk_42 (dk_at dksX10_isWord_0 8 rfl rfl)
theorem dX10_isWord_9 : decode cX10_isWord 9 = .ok (.getfield 144, 3) := dk_180 0 144 (dk_at dksX10_isWord_0 9 rfl rfl)
theorem dX10_isWord_12 : decode cX10_isWord 12 = .ok (.iload_n 1, 1) := dk_27 (dk_at dksX10_isWord_0 12 rfl rfl)
theorem dX10_isWord_13 : decode cX10_isWord 13 = .ok (.invokestatic 167, 3) := dk_184 0 167 (dk_at dksX10_isWord_0 13 rfl rfl)
theorem dX10_isWord_16 : decode cX10_isWord 16 = .ok (.lcmp, 1) := dk_148 (dk_at dksX10_isWord_0 16 rfl rfl)
theorem dX10_isWord_17 : decode cX10_isWord 17 = .ok (.ifCond .ne 7, 3) := dk_154 0 7 (dk_at dksX10_isWord_0 17 rfl rfl)
theorem dX10_isWord_20 : decode cX10_isWord 20 = .ok (.iconst 1, 1) := dk_4 (dk_at dksX10_isWord_0 20 rfl rfl)
theorem dX10_isWord_21 : decode cX10_isWord 21 = .ok (.goto 4, 3) := dk_167 0 4 (dk_at dksX10_isWord_0 21 rfl rfl)
theorem dX10_isWord_24 : decode cX10_isWord 24 = .ok (.iconst 0, 1) := dk_3 (dk_at dksX10_isWord_1 0 rfl rfl)
theorem dX10_isWord_25 : decode cX10_isWord 25 = .ok (.ireturn, 1) := dk_172 (dk_at dksX10_isWord_1 1 rfl rfl)
theorem fl_X10_131 : gFl "BitingDoorsModel" 131 [8] 7 := by
  intro args s hts hN ci hc
  simp only [List.mem_cons, List.not_mem_nil, or_false] at hc
  subst hc
  exact ⟨RX10, TX10, 64, "BitingDoorsModel", gCl_X10, in_X10, by decide, Or.inl (hts _ q1657), fun _ h => h⟩
theorem fl_X10_144 : gFl "BitingDoorsModel" 144 [8] 12 := by
  intro args s hts hN ci hc
  simp only [List.mem_cons, List.not_mem_nil, or_false] at hc
  subst hc
  exact ⟨RX10, TX10, 64, "BitingDoorsModel", gCl_X10, in_X10, by decide, Or.inl (hts _ q1662), fun _ h => h⟩
theorem dn_X10_isWord : yX10_isWord.cls ≠ "java/lang/invoke/MethodHandle" ∧ yX10_isWord.cls ≠ "java/lang/invoke/VarHandle" ∧ (parseMethodDescriptor yX10_isWord.desc).map (fun d => d.parameters.length) = some 1 := by decide +kernel
noncomputable def M_X10_isWord (p1 : Int32) : TM Bool := TM.bind (tI 7) (fun v1 => TM.bind ((if v1 = 2 then TM.bind (tL 12) (fun v3 => TM.bind (M_X10_wordOf p1) (fun v4 => if (lg_cmp v3 v4) = 0 then TM.pure true else TM.pure false)) else TM.pure false : TM (Bool))) (fun u2 => TM.pure u2))
set_option maxHeartbeats 4000000 in
theorem ct_X10_isWord (G : gG) (am : Nat) (p1 : Int32) : gCtM G am yX10_isWord cX10_isWord 2 (some .boolean) 2 46 [.ref am, .int p1] (M_X10_isWord p1) (fun x : Bool => some (.int (b2i x))) := by
  refine gCtM.of (by decide) (Nat.le_of_ble_eq_true rfl) (fun K hn ms ms' r hG X hK hd ho => ?_)
  subst hG
  have X : gX K cX10_isWord 2 "BitingDoorsModel" "isWord" (some .boolean) 2 46 := X
  show V K 2 (mkM am hn ms) 0 [(0, .ref am), (1, .int p1)] []
  unfold M_X10_isWord at hd
  refine v_aload_n X dX10_isWord_0 0 0 rfl rfl ?_
  refine t_getI X hd rfl fl_X10_131 dX10_isWord_1 (fun v1 hd => ?_)
  refine v_iconst (v := 2) X dX10_isWord_4 (by decide) ?_
  obtain ⟨u2, m1, hd, hd2⟩ := TM.bind_some hd
  have KJ : V K 2 (mkM am hn m1) 25 [] [.int (b2i u2)] := by
    clear hd
    have hd := hd2
    exact t_zret X hK hd rfl ho dX10_isWord_25
  clear hd2
  refine v_icmp_ne (tgt := 24) X dX10_isWord_5 (by decide) (fun q => ?_) (fun q => ?_)
  · have hd := Tite_f q hd
    refine v_iconst (v := 0) X dX10_isWord_24 (by decide) ?_
    exact v_loc [] rfl (t_at (P := fun (u2 : Bool) m => V K 2 (mkM am hn m) 25 [] [.int (b2i u2)]) hd KJ)
  · have hd := Tite_t q hd
    refine v_aload_n X dX10_isWord_8 0 0 rfl rfl ?_
    refine t_getL X hd rfl fl_X10_144 dX10_isWord_9 (fun v3 hd => ?_)
    refine v_iload_n X dX10_isWord_12 1 1 rfl rfl ?_
    refine t_callS X hK hd (ct_X10_wordOf _ am p1) (lw_S q1900 q1901 q120 q1902) dn_X10_wordOf rfl ⟨by decide, by decide⟩ rfl (Nat.le_of_ble_eq_true rfl) dX10_isWord_13 (fun v4 ms hd => ?_)
    show V K 2 (mkM am hn ms) 16 [(0, .ref am), (1, .int p1)] [.long v4, .long v3]
    refine v_lcmp X dX10_isWord_16 ?_
    refine v_if_ne (tgt := 24) X dX10_isWord_17 (by decide) (fun q => ?_) (fun q => ?_)
    · have hd := Tite_f q hd
      refine v_iconst (v := 0) X dX10_isWord_24 (by decide) ?_
      exact v_loc [] rfl (t_at (P := fun (u2 : Bool) m => V K 2 (mkM am hn m) 25 [] [.int (b2i u2)]) hd KJ)
    · have hd := Tite_t q hd
      refine v_iconst (v := 1) X dX10_isWord_20 (by decide) ?_
      refine v_goto (tgt := 25) X dX10_isWord_21 (by decide) ?_
      exact v_loc [] rfl (t_at (P := fun (u2 : Bool) m => V K 2 (mkM am hn m) 25 [] [.int (b2i u2)]) hd KJ)
def dkwX10_oneAtHand_2 : List UInt8 := [153, 0, 8, 16, 6, 167, 0, 18, 42, 16, 7, 182, 0, 224, 153, 0, 8, 16, 7, 167, 0, 4, 2, 172]
abbrev dktX10_oneAtHand_2 : List UInt8 := dkwX10_oneAtHand_2 ++ []
def dkwX10_oneAtHand_1 : List UInt8 := [167, 255, 237, 42, 16, 10, 182, 0, 224, 153, 0, 8, 16, 10, 167, 0, 32, 42, 16, 6, 182, 0, 224]
abbrev dktX10_oneAtHand_1 : List UInt8 := dkwX10_oneAtHand_1 ++ dktX10_oneAtHand_2
def dkwX10_oneAtHand_0 : List UInt8 := [16, 19, 60, 27, 16, 25, 163, 0, 19, 42, 27, 182, 0, 224, 153, 0, 5, 27, 172, 132, 1, 1]
abbrev dktX10_oneAtHand_0 : List UInt8 := dkwX10_oneAtHand_0 ++ dktX10_oneAtHand_1
theorem dksX10_oneAtHand_0 : cX10_oneAtHand.data.toList.drop 0 = dktX10_oneAtHand_0 := by decide +kernel
theorem dksX10_oneAtHand_1 : cX10_oneAtHand.data.toList.drop 22 = dktX10_oneAtHand_1 := dk_seg dksX10_oneAtHand_0 22 rfl rfl
theorem dksX10_oneAtHand_2 : cX10_oneAtHand.data.toList.drop 45 = dktX10_oneAtHand_2 := dk_seg dksX10_oneAtHand_1 23 rfl rfl
theorem dX10_oneAtHand_0 : decode cX10_oneAtHand 0 = .ok (.bipush 19, 2) := dk_16 19 (dk_at dksX10_oneAtHand_0 0 rfl rfl)
theorem dX10_oneAtHand_2 : decode cX10_oneAtHand 2 = .ok (.istore_n 1, 1) := dk_60 (dk_at dksX10_oneAtHand_0 2 rfl rfl)
theorem dX10_oneAtHand_3 : decode cX10_oneAtHand 3 = .ok (.iload_n 1, 1) := dk_27 (dk_at dksX10_oneAtHand_0 3 rfl rfl)
theorem dX10_oneAtHand_4 : decode cX10_oneAtHand 4 = .ok (.bipush 25, 2) := dk_16 25 (dk_at dksX10_oneAtHand_0 4 rfl rfl)
theorem dX10_oneAtHand_6 : decode cX10_oneAtHand 6 = .ok (.if_icmp .gt 19, 3) := dk_163 0 19 (dk_at dksX10_oneAtHand_0 6 rfl rfl)
theorem dX10_oneAtHand_9 : decode cX10_oneAtHand 9 = .ok (.aload_n 0, 1) := dk_42 (dk_at dksX10_oneAtHand_0 9 rfl rfl)
theorem dX10_oneAtHand_10 : decode cX10_oneAtHand 10 = .ok (.iload_n 1, 1) := dk_27 (dk_at dksX10_oneAtHand_0 10 rfl rfl)
theorem dX10_oneAtHand_11 : decode cX10_oneAtHand 11 = .ok (.invokevirtual 224, 3) := dk_182 0 224 (dk_at dksX10_oneAtHand_0 11 rfl rfl)
theorem dX10_oneAtHand_14 : decode cX10_oneAtHand 14 = .ok (.ifCond .eq 5, 3) := dk_153 0 5 (dk_at dksX10_oneAtHand_0 14 rfl rfl)
theorem dX10_oneAtHand_17 : decode cX10_oneAtHand 17 = .ok (.iload_n 1, 1) := dk_27 (dk_at dksX10_oneAtHand_0 17 rfl rfl)
theorem dX10_oneAtHand_18 : decode cX10_oneAtHand 18 = .ok (.ireturn, 1) := dk_172 (dk_at dksX10_oneAtHand_0 18 rfl rfl)
theorem dX10_oneAtHand_19 : decode cX10_oneAtHand 19 = .ok (.iinc 1 1, 3) := dk_132 1 1 (dk_at dksX10_oneAtHand_0 19 rfl rfl)
theorem dX10_oneAtHand_22 : decode cX10_oneAtHand 22 = .ok (.goto (-19), 3) := dk_167 255 237 (dk_at dksX10_oneAtHand_1 0 rfl rfl)
theorem dX10_oneAtHand_25 : decode cX10_oneAtHand 25 = .ok (.aload_n 0, 1) := dk_42 (dk_at dksX10_oneAtHand_1 3 rfl rfl)
theorem dX10_oneAtHand_26 : decode cX10_oneAtHand 26 = .ok (.bipush 10, 2) := dk_16 10 (dk_at dksX10_oneAtHand_1 4 rfl rfl)
theorem dX10_oneAtHand_28 : decode cX10_oneAtHand 28 = .ok (.invokevirtual 224, 3) := dk_182 0 224 (dk_at dksX10_oneAtHand_1 6 rfl rfl)
theorem dX10_oneAtHand_31 : decode cX10_oneAtHand 31 = .ok (.ifCond .eq 8, 3) := dk_153 0 8 (dk_at dksX10_oneAtHand_1 9 rfl rfl)
theorem dX10_oneAtHand_34 : decode cX10_oneAtHand 34 = .ok (.bipush 10, 2) := dk_16 10 (dk_at dksX10_oneAtHand_1 12 rfl rfl)
theorem dX10_oneAtHand_36 : decode cX10_oneAtHand 36 = .ok (.goto 32, 3) := dk_167 0 32 (dk_at dksX10_oneAtHand_1 14 rfl rfl)
theorem dX10_oneAtHand_39 : decode cX10_oneAtHand 39 = .ok (.aload_n 0, 1) := dk_42 (dk_at dksX10_oneAtHand_1 17 rfl rfl)
theorem dX10_oneAtHand_40 : decode cX10_oneAtHand 40 = .ok (.bipush 6, 2) := dk_16 6 (dk_at dksX10_oneAtHand_1 18 rfl rfl)
theorem dX10_oneAtHand_42 : decode cX10_oneAtHand 42 = .ok (.invokevirtual 224, 3) := dk_182 0 224 (dk_at dksX10_oneAtHand_1 20 rfl rfl)
theorem dX10_oneAtHand_45 : decode cX10_oneAtHand 45 = .ok (.ifCond .eq 8, 3) := dk_153 0 8 (dk_at dksX10_oneAtHand_2 0 rfl rfl)
theorem dX10_oneAtHand_48 : decode cX10_oneAtHand 48 = .ok (.bipush 6, 2) := dk_16 6 (dk_at dksX10_oneAtHand_2 3 rfl rfl)
theorem dX10_oneAtHand_50 : decode cX10_oneAtHand 50 = .ok (.goto 18, 3) := dk_167 0 18 (dk_at dksX10_oneAtHand_2 5 rfl rfl)
theorem dX10_oneAtHand_53 : decode cX10_oneAtHand 53 = .ok (.aload_n 0, 1) := dk_42 (dk_at dksX10_oneAtHand_2 8 rfl rfl)
theorem dX10_oneAtHand_54 : decode cX10_oneAtHand 54 = .ok (.bipush 7, 2) := dk_16 7 (dk_at dksX10_oneAtHand_2 9 rfl rfl)
theorem dX10_oneAtHand_56 : decode cX10_oneAtHand 56 = .ok (.invokevirtual 224, 3) := dk_182 0 224 (dk_at dksX10_oneAtHand_2 11 rfl rfl)
theorem dX10_oneAtHand_59 : decode cX10_oneAtHand 59 = .ok (.ifCond .eq 8, 3) := dk_153 0 8 (dk_at dksX10_oneAtHand_2 14 rfl rfl)
theorem dX10_oneAtHand_62 : decode cX10_oneAtHand 62 = .ok (.bipush 7, 2) := dk_16 7 (dk_at dksX10_oneAtHand_2 17 rfl rfl)
theorem dX10_oneAtHand_64 : decode cX10_oneAtHand 64 = .ok (.goto 4, 3) := dk_167 0 4 (dk_at dksX10_oneAtHand_2 19 rfl rfl)
theorem dX10_oneAtHand_67 : decode cX10_oneAtHand 67 = .ok (.iconst (-1), 1) := dk_2 (dk_at dksX10_oneAtHand_2 22 rfl rfl)
theorem dX10_oneAtHand_68 : decode cX10_oneAtHand 68 = .ok (.ireturn, 1) := dk_172 (dk_at dksX10_oneAtHand_2 23 rfl rfl)
theorem dn_X10_oneAtHand : yX10_oneAtHand.cls ≠ "java/lang/invoke/MethodHandle" ∧ yX10_oneAtHand.cls ≠ "java/lang/invoke/VarHandle" ∧ (parseMethodDescriptor yX10_oneAtHand.desc).map (fun d => d.parameters.length) = some 0 := by decide +kernel
noncomputable def M_X10_oneAtHand  : TM Int32 := TM.loop (S := Int32) (fun s1 => if 25 < s1 then TM.bind (M_X10_isWord 10) (fun v4 => TM.bind ((cond v4 (TM.pure 10) (TM.bind (M_X10_isWord 6) (fun v6 => cond v6 (TM.pure 6) (TM.bind (M_X10_isWord 7) (fun v7 => cond v7 (TM.pure 7) (TM.pure (-1)))))) : TM (Int32))) (fun u5 => TM.pure (Sum.inr u5))) else TM.bind (M_X10_isWord s1) (fun v8 => cond v8 (TM.pure (Sum.inr s1)) (TM.lv (s1 + 1) (fun v9 => TM.pure (Sum.inl v9))))) 19
set_option maxHeartbeats 4000000 in
theorem ct_X10_oneAtHand (G : gG) (am : Nat)  : gCtM G am yX10_oneAtHand cX10_oneAtHand 2 (some .int) 3 67 [.ref am] (M_X10_oneAtHand) (fun x : Int32 => some (.int x)) := by
  refine gCtM.of (by decide) (Nat.le_of_ble_eq_true rfl) (fun K hn ms ms' r hG X hK hd ho => ?_)
  subst hG
  have X : gX K cX10_oneAtHand 2 "BitingDoorsModel" "oneAtHand" (some .int) 3 67 := X
  show V K 2 (mkM am hn ms) 0 [(0, .ref am)] []
  unfold M_X10_oneAtHand at hd
  refine v_bipush (v := 19) X dX10_oneAtHand_0 (by decide) ?_
  refine v_istore_n (lv2 := [(1, .int 19), (0, .ref am)]) X dX10_oneAtHand_2 1 rfl (by decide) rfl ?_
  refine v_loc [1, 0] rfl ?_
  refine Tloop_ind hd (fun (s1 : Int32) m => V K 2 (mkM am hn m) 3 [(0, .ref am), (1, .int s1)] []) (fun s1 ms x m2 hd ih2 ho3 => ?_)
  refine v_iload_n X dX10_oneAtHand_3 1 1 rfl rfl ?_
  refine v_bipush (v := 25) X dX10_oneAtHand_4 (by decide) ?_
  refine v_icmp_gt (tgt := 25) X dX10_oneAtHand_6 (by decide) (fun q => ?_) (fun q => ?_)
  · have hd := Tite_t q hd
    refine v_aload_n X dX10_oneAtHand_25 0 0 rfl rfl ?_
    refine v_bipush (v := 10) X dX10_oneAtHand_26 (by decide) ?_
    refine t_callV X hK hd (ct_X10_isWord _ am 10) (lw_V q1896 q1898 qs42 q120 q1899) ⟨rfl, dn_X10_isWord⟩ rfl ⟨by decide, by decide⟩ rfl (Nat.le_of_ble_eq_true rfl) dX10_oneAtHand_28 (fun v4 ms hd => ?_)
    show V K 2 (mkM am hn ms) 31 [(0, .ref am), (1, .int s1)] [.int (b2i v4)]
    obtain ⟨u5, m1, hd, hd2⟩ := TM.bind_some hd
    have KJ : V K 2 (mkM am hn m1) 68 [] [.int u5] := by
      clear hd
      have hd := hd2
      have hd := Tlp_out hd ho3
      exact t_iret X hK hd ho dX10_oneAtHand_68
    clear hd2
    refine v_ifZ_eq (tgt := 39) X dX10_oneAtHand_31 (by decide) (fun q => ?_) (fun q => ?_)
    · have hd := Tcnd_f q hd
      refine v_aload_n X dX10_oneAtHand_39 0 0 rfl rfl ?_
      refine v_bipush (v := 6) X dX10_oneAtHand_40 (by decide) ?_
      refine t_callV X hK hd (ct_X10_isWord _ am 6) (lw_V q1896 q1898 qs42 q120 q1899) ⟨rfl, dn_X10_isWord⟩ rfl ⟨by decide, by decide⟩ rfl (Nat.le_of_ble_eq_true rfl) dX10_oneAtHand_42 (fun v6 ms hd => ?_)
      show V K 2 (mkM am hn ms) 45 [(0, .ref am), (1, .int s1)] [.int (b2i v6)]
      refine v_ifZ_eq (tgt := 53) X dX10_oneAtHand_45 (by decide) (fun q => ?_) (fun q => ?_)
      · have hd := Tcnd_f q hd
        refine v_aload_n X dX10_oneAtHand_53 0 0 rfl rfl ?_
        refine v_bipush (v := 7) X dX10_oneAtHand_54 (by decide) ?_
        refine t_callV X hK hd (ct_X10_isWord _ am 7) (lw_V q1896 q1898 qs42 q120 q1899) ⟨rfl, dn_X10_isWord⟩ rfl ⟨by decide, by decide⟩ rfl (Nat.le_of_ble_eq_true rfl) dX10_oneAtHand_56 (fun v7 ms hd => ?_)
        show V K 2 (mkM am hn ms) 59 [(0, .ref am), (1, .int s1)] [.int (b2i v7)]
        refine v_ifZ_eq (tgt := 67) X dX10_oneAtHand_59 (by decide) (fun q => ?_) (fun q => ?_)
        · have hd := Tcnd_f q hd
          refine v_iconst (v := (-1)) X dX10_oneAtHand_67 (by decide) ?_
          exact v_loc [] rfl (t_at (P := fun (u5 : Int32) m => V K 2 (mkM am hn m) 68 [] [.int u5]) hd KJ)
        · have hd := Tcnd_t q hd
          refine v_bipush (v := 7) X dX10_oneAtHand_62 (by decide) ?_
          refine v_goto (tgt := 68) X dX10_oneAtHand_64 (by decide) ?_
          exact v_loc [] rfl (t_at (P := fun (u5 : Int32) m => V K 2 (mkM am hn m) 68 [] [.int u5]) hd KJ)
      · have hd := Tcnd_t q hd
        refine v_bipush (v := 6) X dX10_oneAtHand_48 (by decide) ?_
        refine v_goto (tgt := 68) X dX10_oneAtHand_50 (by decide) ?_
        exact v_loc [] rfl (t_at (P := fun (u5 : Int32) m => V K 2 (mkM am hn m) 68 [] [.int u5]) hd KJ)
    · have hd := Tcnd_t q hd
      refine v_bipush (v := 10) X dX10_oneAtHand_34 (by decide) ?_
      refine v_goto (tgt := 68) X dX10_oneAtHand_36 (by decide) ?_
      exact v_loc [] rfl (t_at (P := fun (u5 : Int32) m => V K 2 (mkM am hn m) 68 [] [.int u5]) hd KJ)
  · have hd := Tite_f q hd
    refine v_aload_n X dX10_oneAtHand_9 0 0 rfl rfl ?_
    refine v_iload_n X dX10_oneAtHand_10 1 1 rfl rfl ?_
    refine t_callV X hK hd (ct_X10_isWord _ am s1) (lw_V q1896 q1898 qs42 q120 q1899) ⟨rfl, dn_X10_isWord⟩ rfl ⟨by decide, by decide⟩ rfl (Nat.le_of_ble_eq_true rfl) dX10_oneAtHand_11 (fun v8 ms hd => ?_)
    show V K 2 (mkM am hn ms) 14 [(0, .ref am), (1, .int s1)] [.int (b2i v8)]
    refine v_ifZ_eq (tgt := 19) X dX10_oneAtHand_14 (by decide) (fun q => ?_) (fun q => ?_)
    · have hd := Tcnd_f q hd
      refine t_iincL (lv2 := fun v9 => [(1, .int v9), (0, .ref am)]) X hd dX10_oneAtHand_19 1 rfl (by decide : Int32.ofInt 1 = 1) (by decide) (fun v9 => rfl) (fun v9 hd => ?_)
      refine v_goto (tgt := 3) X dX10_oneAtHand_22 (by decide) ?_
      exact v_loc [1, 0] rfl (Tlp_in (P := fun (s1 : Int32) m => V K 2 (mkM am hn m) 3 [(0, .ref am), (1, .int s1)] []) hd ih2)
    · have hd := Tcnd_t q hd
      refine v_iload_n X dX10_oneAtHand_17 1 1 rfl rfl ?_
      have hd := Tlp_out hd ho3
      exact t_iret X hK hd ho dX10_oneAtHand_18
def dkwX10_doors_0 : List UInt8 := [42, 180, 0, 13, 5, 46, 172]
abbrev dktX10_doors_0 : List UInt8 := dkwX10_doors_0 ++ []
theorem dksX10_doors_0 : cX10_doors.data.toList.drop 0 = dktX10_doors_0 := by decide +kernel
theorem dX10_doors_0 : decode cX10_doors 0 = .ok (.aload_n 0, 1) := dk_42 (dk_at dksX10_doors_0 0 rfl rfl)
theorem dX10_doors_1 : decode cX10_doors 1 = .ok (.getfield 13, 3) := dk_180 0 13 (dk_at dksX10_doors_0 1 rfl rfl)
theorem dX10_doors_4 : decode cX10_doors 4 = .ok (.iconst 2, 1) := dk_5 (dk_at dksX10_doors_0 4 rfl rfl)
theorem dX10_doors_5 : decode cX10_doors 5 = .ok (.iaload, 1) := dk_46 (dk_at dksX10_doors_0 5 rfl rfl)
theorem dX10_doors_6 : decode cX10_doors 6 = .ok (.ireturn, 1) := dk_172 (dk_at dksX10_doors_0 6 rfl rfl)
theorem fl_X10_13 : gFl "BitingDoorsModel" 13 [8] 14 := by
  intro args s hts hN ci hc
  simp only [List.mem_cons, List.not_mem_nil, or_false] at hc
  subst hc
  exact ⟨RX10, TX10, 64, "BitingDoorsModel", gCl_X10, in_X10, by decide, Or.inl (hts _ q1664), fun _ h => h⟩
theorem dn_X10_doors : yX10_doors.cls ≠ "java/lang/invoke/MethodHandle" ∧ yX10_doors.cls ≠ "java/lang/invoke/VarHandle" ∧ (parseMethodDescriptor yX10_doors.desc).map (fun d => d.parameters.length) = some 0 := by decide +kernel
noncomputable def M_X10_doors  : TM Int32 := TM.bind (tA 14 704 2) (fun v1 => TM.pure v1)
set_option maxHeartbeats 4000000 in
theorem ct_X10_doors (G : gG) (am : Nat)  : gCtM G am yX10_doors cX10_doors 1 (some .int) 0 0 [.ref am] (M_X10_doors) (fun x : Int32 => some (.int x)) := by
  refine gCtM.of (by decide) (Nat.le_of_ble_eq_true rfl) (fun K hn ms ms' r hG X hK hd ho => ?_)
  subst hG
  have X : gX K cX10_doors 1 "BitingDoorsModel" "doors" (some .int) 0 0 := X
  show V K 1 (mkM am hn ms) 0 [(0, .ref am)] []
  unfold M_X10_doors at hd
  refine v_aload_n X dX10_doors_0 0 0 rfl rfl ?_
  refine t_getA (j := 1) X rfl fl_X10_13 dX10_doors_1 ?_
  refine v_iconst (v := 2) X dX10_doors_4 (by decide) ?_
  refine t_iald (j := 1) X hd rfl dX10_doors_5 (fun v1 hd => ?_)
  exact t_iret X hK hd ho dX10_doors_6
def dkwX10_lay_1 : List UInt8 := [17, 1, 84, 2, 79, 177]
abbrev dktX10_lay_1 : List UInt8 := dkwX10_lay_1 ++ []
def dkwX10_lay_0 : List UInt8 := [42, 180, 0, 207, 153, 0, 4, 177, 42, 4, 181, 0, 207, 42, 180, 0, 13, 7, 2, 79, 42, 180, 0, 13]
abbrev dktX10_lay_0 : List UInt8 := dkwX10_lay_0 ++ dktX10_lay_1
theorem dksX10_lay_0 : cX10_lay.data.toList.drop 0 = dktX10_lay_0 := by decide +kernel
theorem dksX10_lay_1 : cX10_lay.data.toList.drop 24 = dktX10_lay_1 := dk_seg dksX10_lay_0 24 rfl rfl
theorem dX10_lay_0 : decode cX10_lay 0 = .ok (.aload_n 0, 1) := dk_42 (dk_at dksX10_lay_0 0 rfl rfl)
theorem dX10_lay_1 : decode cX10_lay 1 = .ok (.getfield 207, 3) := dk_180 0 207 (dk_at dksX10_lay_0 1 rfl rfl)
theorem dX10_lay_4 : decode cX10_lay 4 = .ok (.ifCond .eq 4, 3) := dk_153 0 4 (dk_at dksX10_lay_0 4 rfl rfl)
theorem dX10_lay_7 : decode cX10_lay 7 = .ok (.return_, 1) := dk_177 (dk_at dksX10_lay_0 7 rfl rfl)
theorem dX10_lay_8 : decode cX10_lay 8 = .ok (.aload_n 0, 1) := dk_42 (dk_at dksX10_lay_0 8 rfl rfl)
theorem dX10_lay_9 : decode cX10_lay 9 = .ok (.iconst 1, 1) := dk_4 (dk_at dksX10_lay_0 9 rfl rfl)
theorem dX10_lay_10 : decode cX10_lay 10 = .ok (.putfield 207, 3) := dk_181 0 207 (dk_at dksX10_lay_0 10 rfl rfl)
theorem dX10_lay_13 : decode cX10_lay 13 = .ok (.aload_n 0, 1) := dk_42 (dk_at dksX10_lay_0 13 rfl rfl)
theorem dX10_lay_14 : decode cX10_lay 14 = .ok (.getfield 13, 3) := dk_180 0 13 (dk_at dksX10_lay_0 14 rfl rfl)
theorem dX10_lay_17 : decode cX10_lay 17 = .ok (.iconst 4, 1) := dk_7 (dk_at dksX10_lay_0 17 rfl rfl)
theorem dX10_lay_18 : decode cX10_lay 18 = .ok (.iconst (-1), 1) := dk_2 (dk_at dksX10_lay_0 18 rfl rfl)
theorem dX10_lay_19 : decode cX10_lay 19 = .ok (.iastore, 1) := dk_79 (dk_at dksX10_lay_0 19 rfl rfl)
theorem dX10_lay_20 : decode cX10_lay 20 = .ok (.aload_n 0, 1) := dk_42 (dk_at dksX10_lay_0 20 rfl rfl)
theorem dX10_lay_21 : decode cX10_lay 21 = .ok (.getfield 13, 3) := dk_180 0 13 (dk_at dksX10_lay_0 21 rfl rfl)
theorem dX10_lay_24 : decode cX10_lay 24 = .ok (.sipush 340, 3) := dk_17 1 84 (dk_at dksX10_lay_1 0 rfl rfl)
theorem dX10_lay_27 : decode cX10_lay 27 = .ok (.iconst (-1), 1) := dk_2 (dk_at dksX10_lay_1 3 rfl rfl)
theorem dX10_lay_28 : decode cX10_lay 28 = .ok (.iastore, 1) := dk_79 (dk_at dksX10_lay_1 4 rfl rfl)
theorem dX10_lay_29 : decode cX10_lay 29 = .ok (.return_, 1) := dk_177 (dk_at dksX10_lay_1 5 rfl rfl)
theorem fl_X10_207 : gFl "BitingDoorsModel" 207 [8] 22 := by
  intro args s hts hN ci hc
  simp only [List.mem_cons, List.not_mem_nil, or_false] at hc
  subst hc
  exact ⟨RX10, TX10, 64, "BitingDoorsModel", gCl_X10, in_X10, by decide, Or.inl (hts _ q1672), fun _ h => h⟩
theorem fp_X10_207 {nm : String} : gFp "BitingDoorsModel" nm 207 [8] 22 .boolean := by
  intro args s hts hN ci hc
  simp only [List.mem_cons, List.not_mem_nil, or_false] at hc
  subst hc
  exact ⟨RX10, TX10, 64, "BitingDoorsModel", gCl_X10, in_X10, by decide, Or.inl ⟨rfl, Or.inl (hts _ q1672)⟩, fun _ h => h, rfl, fun D tys hK => gap_X10 hts hK⟩
theorem dn_X10_lay : yX10_lay.cls ≠ "java/lang/invoke/MethodHandle" ∧ yX10_lay.cls ≠ "java/lang/invoke/VarHandle" ∧ (parseMethodDescriptor yX10_lay.desc).map (fun d => d.parameters.length) = some 0 := by decide +kernel
noncomputable def M_X10_lay  : TM Unit := TM.bind (tZ 22) (fun v1 => cond v1 (TM.pure ()) (TM.bind (sI 22 (b2i true)) (fun _ => TM.bind (sA 14 704 4 (-1)) (fun _ => TM.bind (sA 14 704 340 (-1)) (fun _ => TM.pure ())))))
set_option maxHeartbeats 4000000 in
theorem ct_X10_lay (G : gG) (am : Nat)  : gCtM G am yX10_lay cX10_lay 1 none 0 0 [.ref am] (M_X10_lay) (fun _ : Unit => none) := by
  refine gCtM.of (by decide) (Nat.le_of_ble_eq_true rfl) (fun K hn ms ms' r hG X hK hd ho => ?_)
  subst hG
  have X : gX K cX10_lay 1 "BitingDoorsModel" "lay" none 0 0 := X
  show V K 1 (mkM am hn ms) 0 [(0, .ref am)] []
  unfold M_X10_lay at hd
  refine v_aload_n X dX10_lay_0 0 0 rfl rfl ?_
  refine t_getZ X hd rfl fl_X10_207 dX10_lay_1 (fun v1 hd => ?_)
  refine v_ifZ_eq (tgt := 8) X dX10_lay_4 (by decide) (fun q => ?_) (fun q => ?_)
  · have hd := Tcnd_f q hd
    refine v_aload_n X dX10_lay_8 0 0 rfl rfl ?_
    refine v_iconst (v := 1) X dX10_lay_9 (by decide) ?_
    refine t_putZ (b := true) X hd rfl fp_X10_207 dX10_lay_10 (fun ms hd => ?_)
    refine v_aload_n X dX10_lay_13 0 0 rfl rfl ?_
    refine t_getA (j := 1) X rfl fl_X10_13 dX10_lay_14 ?_
    refine v_iconst (v := 4) X dX10_lay_17 (by decide) ?_
    refine v_iconst (v := (-1)) X dX10_lay_18 (by decide) ?_
    refine t_iast (j := 1) X hd rfl dX10_lay_19 (fun ms hd => ?_)
    refine v_aload_n X dX10_lay_20 0 0 rfl rfl ?_
    refine t_getA (j := 1) X rfl fl_X10_13 dX10_lay_21 ?_
    refine v_sipush (v := 340) X dX10_lay_24 (by decide) ?_
    refine v_iconst (v := (-1)) X dX10_lay_27 (by decide) ?_
    refine t_iast (j := 1) X hd rfl dX10_lay_28 (fun ms hd => ?_)
    exact t_vret X hK hd ho dX10_lay_29
  · have hd := Tcnd_t q hd
    exact t_vret X hK hd ho dX10_lay_7
def dkwX10_count_3 : List UInt8 := [46, 172, 42, 180, 0, 13, 17, 1, 85, 46, 172, 42, 180, 0, 112, 172, 2, 172]
abbrev dktX10_count_3 : List UInt8 := dkwX10_count_3 ++ []
def dkwX10_count_2 : List UInt8 := [42, 180, 0, 13, 3, 46, 172, 42, 180, 0, 13, 4, 46, 172, 42, 182, 0, 211, 172, 42, 180, 0, 13, 6]
abbrev dktX10_count_2 : List UInt8 := dkwX10_count_2 ++ dktX10_count_3
def dkwX10_count_1 : List UInt8 := [170, 0, 0, 0, 0, 78, 0, 0, 0, 0, 0, 0, 0, 5, 0, 0, 0, 38, 0, 0, 0, 45, 0, 0, 0, 52, 0, 0, 0, 57, 0, 0, 0, 64, 0, 0, 0, 73]
abbrev dktX10_count_1 : List UInt8 := dkwX10_count_1 ++ dktX10_count_2
def dkwX10_count_0 : List UInt8 := [42, 3, 181, 0, 108, 42, 182, 0, 200, 27]
abbrev dktX10_count_0 : List UInt8 := dkwX10_count_0 ++ dktX10_count_1
theorem dksX10_count_0 : cX10_count.data.toList.drop 0 = dktX10_count_0 := by decide +kernel
theorem dksX10_count_1 : cX10_count.data.toList.drop 10 = dktX10_count_1 := dk_seg dksX10_count_0 10 rfl rfl
theorem dksX10_count_2 : cX10_count.data.toList.drop 48 = dktX10_count_2 := dk_seg dksX10_count_1 38 rfl rfl
theorem dksX10_count_3 : cX10_count.data.toList.drop 72 = dktX10_count_3 := dk_seg dksX10_count_2 24 rfl rfl
theorem dX10_count_0 : decode cX10_count 0 = .ok (.aload_n 0, 1) := dk_42 (dk_at dksX10_count_0 0 rfl rfl)
theorem dX10_count_1 : decode cX10_count 1 = .ok (.iconst 0, 1) := dk_3 (dk_at dksX10_count_0 1 rfl rfl)
theorem dX10_count_2 : decode cX10_count 2 = .ok (.putfield 108, 3) := dk_181 0 108 (dk_at dksX10_count_0 2 rfl rfl)
theorem dX10_count_5 : decode cX10_count 5 = .ok (.aload_n 0, 1) := dk_42 (dk_at dksX10_count_0 5 rfl rfl)
theorem dX10_count_6 : decode cX10_count 6 = .ok (.invokevirtual 200, 3) := dk_182 0 200 (dk_at dksX10_count_0 6 rfl rfl)
theorem dX10_count_9 : decode cX10_count 9 = .ok (.iload_n 1, 1) := dk_27 (dk_at dksX10_count_0 9 rfl rfl)
theorem dX10_count_10 : decode cX10_count 10 = .ok (.tableswitch 78 0 5 #[38, 45, 52, 57, 64, 73], 38) := by decide +kernel
theorem dX10_count_48 : decode cX10_count 48 = .ok (.aload_n 0, 1) := dk_42 (dk_at dksX10_count_2 0 rfl rfl)
theorem dX10_count_49 : decode cX10_count 49 = .ok (.getfield 13, 3) := dk_180 0 13 (dk_at dksX10_count_2 1 rfl rfl)
theorem dX10_count_52 : decode cX10_count 52 = .ok (.iconst 0, 1) := dk_3 (dk_at dksX10_count_2 4 rfl rfl)
theorem dX10_count_53 : decode cX10_count 53 = .ok (.iaload, 1) := dk_46 (dk_at dksX10_count_2 5 rfl rfl)
theorem dX10_count_54 : decode cX10_count 54 = .ok (.ireturn, 1) := dk_172 (dk_at dksX10_count_2 6 rfl rfl)
theorem dX10_count_55 : decode cX10_count 55 = .ok (.aload_n 0, 1) := dk_42 (dk_at dksX10_count_2 7 rfl rfl)
theorem dX10_count_56 : decode cX10_count 56 = .ok (.getfield 13, 3) := dk_180 0 13 (dk_at dksX10_count_2 8 rfl rfl)
theorem dX10_count_59 : decode cX10_count 59 = .ok (.iconst 1, 1) := dk_4 (dk_at dksX10_count_2 11 rfl rfl)
theorem dX10_count_60 : decode cX10_count 60 = .ok (.iaload, 1) := dk_46 (dk_at dksX10_count_2 12 rfl rfl)
theorem dX10_count_61 : decode cX10_count 61 = .ok (.ireturn, 1) := dk_172 (dk_at dksX10_count_2 13 rfl rfl)
theorem dX10_count_62 : decode cX10_count 62 = .ok (.aload_n 0, 1) := dk_42 (dk_at dksX10_count_2 14 rfl rfl)
theorem dX10_count_63 : decode cX10_count 63 = .ok (.invokevirtual 211, 3) := dk_182 0 211 (dk_at dksX10_count_2 15 rfl rfl)
theorem dX10_count_66 : decode cX10_count 66 = .ok (.ireturn, 1) := dk_172 (dk_at dksX10_count_2 18 rfl rfl)
theorem dX10_count_67 : decode cX10_count 67 = .ok (.aload_n 0, 1) := dk_42 (dk_at dksX10_count_2 19 rfl rfl)
theorem dX10_count_68 : decode cX10_count 68 = .ok (.getfield 13, 3) := dk_180 0 13 (dk_at dksX10_count_2 20 rfl rfl)
theorem dX10_count_71 : decode cX10_count 71 = .ok (.iconst 3, 1) := dk_6 (dk_at dksX10_count_2 23 rfl rfl)
theorem dX10_count_72 : decode cX10_count 72 = .ok (.iaload, 1) := dk_46 (dk_at dksX10_count_3 0 rfl rfl)
theorem dX10_count_73 : decode cX10_count 73 = .ok (.ireturn, 1) := dk_172 (dk_at dksX10_count_3 1 rfl rfl)
theorem dX10_count_74 : decode cX10_count 74 = .ok (.aload_n 0, 1) := dk_42 (dk_at dksX10_count_3 2 rfl rfl)
theorem dX10_count_75 : decode cX10_count 75 = .ok (.getfield 13, 3) := dk_180 0 13 (dk_at dksX10_count_3 3 rfl rfl)
theorem dX10_count_78 : decode cX10_count 78 = .ok (.sipush 341, 3) := dk_17 1 85 (dk_at dksX10_count_3 6 rfl rfl)
theorem dX10_count_81 : decode cX10_count 81 = .ok (.iaload, 1) := dk_46 (dk_at dksX10_count_3 9 rfl rfl)
theorem dX10_count_82 : decode cX10_count 82 = .ok (.ireturn, 1) := dk_172 (dk_at dksX10_count_3 10 rfl rfl)
theorem dX10_count_83 : decode cX10_count 83 = .ok (.aload_n 0, 1) := dk_42 (dk_at dksX10_count_3 11 rfl rfl)
theorem dX10_count_84 : decode cX10_count 84 = .ok (.getfield 112, 3) := dk_180 0 112 (dk_at dksX10_count_3 12 rfl rfl)
theorem dX10_count_87 : decode cX10_count 87 = .ok (.ireturn, 1) := dk_172 (dk_at dksX10_count_3 15 rfl rfl)
theorem dX10_count_88 : decode cX10_count 88 = .ok (.iconst (-1), 1) := dk_2 (dk_at dksX10_count_3 16 rfl rfl)
theorem dX10_count_89 : decode cX10_count 89 = .ok (.ireturn, 1) := dk_172 (dk_at dksX10_count_3 17 rfl rfl)
theorem fl_X10_112 : gFl "BitingDoorsModel" 112 [8] 2 := by
  intro args s hts hN ci hc
  simp only [List.mem_cons, List.not_mem_nil, or_false] at hc
  subst hc
  exact ⟨RX10, TX10, 64, "BitingDoorsModel", gCl_X10, in_X10, by decide, Or.inl (hts _ q1652), fun _ h => h⟩
theorem fp_X10_108 {nm : String} : gFp "BitingDoorsModel" nm 108 [8] 0 .int := by
  intro args s hts hN ci hc
  simp only [List.mem_cons, List.not_mem_nil, or_false] at hc
  subst hc
  exact ⟨RX10, TX10, 64, "BitingDoorsModel", gCl_X10, in_X10, by decide, Or.inl ⟨rfl, Or.inl (hts _ q1650)⟩, fun _ h => h, rfl, fun D tys hK => gap_X10 hts hK⟩
theorem dn_X10_count : yX10_count.cls ≠ "java/lang/invoke/MethodHandle" ∧ yX10_count.cls ≠ "java/lang/invoke/VarHandle" ∧ (parseMethodDescriptor yX10_count.desc).map (fun d => d.parameters.length) = some 1 := by decide +kernel
noncomputable def M_X10_count (p1 : Int32) : TM Int32 := TM.bind (sI 0 0) (fun _ => TM.bind (M_X10_lay) (fun v1 => if p1 = 0 then TM.bind (tA 14 704 0) (fun v7 => TM.pure v7) else if p1 = 1 then TM.bind (tA 14 704 1) (fun v6 => TM.pure v6) else if p1 = 2 then TM.bind (M_X10_doors) (fun v5 => TM.pure v5) else if p1 = 3 then TM.bind (tA 14 704 3) (fun v4 => TM.pure v4) else if p1 = 4 then TM.bind (tA 14 704 341) (fun v3 => TM.pure v3) else if p1 = 5 then TM.bind (tI 2) (fun v2 => TM.pure v2) else TM.pure (-1)))
set_option maxHeartbeats 4000000 in
theorem ct_X10_count (G : gG) (am : Nat) (p1 : Int32) : gCtM G am yX10_count cX10_count 2 (some .int) 1 20 [.ref am, .int p1] (M_X10_count p1) (fun x : Int32 => some (.int x)) := by
  refine gCtM.of (by decide) (Nat.le_of_ble_eq_true rfl) (fun K hn ms ms' r hG X hK hd ho => ?_)
  subst hG
  have X : gX K cX10_count 2 "BitingDoorsModel" "count" (some .int) 1 20 := X
  show V K 2 (mkM am hn ms) 0 [(0, .ref am), (1, .int p1)] []
  unfold M_X10_count at hd
  refine v_aload_n X dX10_count_0 0 0 rfl rfl ?_
  refine v_iconst (v := 0) X dX10_count_1 (by decide) ?_
  refine t_putI X hd rfl fp_X10_108 dX10_count_2 (fun ms hd => ?_)
  refine v_aload_n X dX10_count_5 0 0 rfl rfl ?_
  refine t_callV X hK hd (ct_X10_lay _ am) (lw_V q1868 q1870 qs37 q120 q1871) ⟨rfl, dn_X10_lay⟩ rfl ⟨by decide, by decide⟩ rfl (Nat.le_of_ble_eq_true rfl) dX10_count_6 (fun v1 ms hd => ?_)
  show V K 2 (mkM am hn ms) 9 [(0, .ref am), (1, .int p1)] []
  refine v_iload_n X dX10_count_9 1 1 rfl rfl ?_
  by_cases q0 : p1 = 0
  · have hd := Tite_t q0 hd
    refine v_tableIn (k := 0) (off := 38) (tgt := 48) X dX10_count_10 q0 (by decide) (by decide) rfl (by decide) ?_
    refine v_aload_n X dX10_count_48 0 0 rfl rfl ?_
    refine t_getA (j := 1) X rfl fl_X10_13 dX10_count_49 ?_
    refine v_iconst (v := 0) X dX10_count_52 (by decide) ?_
    refine t_iald (j := 1) X hd rfl dX10_count_53 (fun v7 hd => ?_)
    exact t_iret X hK hd ho dX10_count_54
  · have hd := Tite_f q0 hd
    by_cases q1 : p1 = 1
    · have hd := Tite_t q1 hd
      refine v_tableIn (k := 1) (off := 45) (tgt := 55) X dX10_count_10 q1 (by decide) (by decide) rfl (by decide) ?_
      refine v_aload_n X dX10_count_55 0 0 rfl rfl ?_
      refine t_getA (j := 1) X rfl fl_X10_13 dX10_count_56 ?_
      refine v_iconst (v := 1) X dX10_count_59 (by decide) ?_
      refine t_iald (j := 1) X hd rfl dX10_count_60 (fun v6 hd => ?_)
      exact t_iret X hK hd ho dX10_count_61
    · have hd := Tite_f q1 hd
      by_cases q2 : p1 = 2
      · have hd := Tite_t q2 hd
        refine v_tableIn (k := 2) (off := 52) (tgt := 62) X dX10_count_10 q2 (by decide) (by decide) rfl (by decide) ?_
        refine v_aload_n X dX10_count_62 0 0 rfl rfl ?_
        refine t_callV X hK hd (ct_X10_doors _ am) (lw_V q1986 q1988 qs57 q120 q1989) ⟨rfl, dn_X10_doors⟩ rfl ⟨by decide, by decide⟩ rfl (Nat.le_of_ble_eq_true rfl) dX10_count_63 (fun v5 ms hd => ?_)
        show V K 2 (mkM am hn ms) 66 [(0, .ref am), (1, .int p1)] [.int v5]
        exact t_iret X hK hd ho dX10_count_66
      · have hd := Tite_f q2 hd
        by_cases q3 : p1 = 3
        · have hd := Tite_t q3 hd
          refine v_tableIn (k := 3) (off := 57) (tgt := 67) X dX10_count_10 q3 (by decide) (by decide) rfl (by decide) ?_
          refine v_aload_n X dX10_count_67 0 0 rfl rfl ?_
          refine t_getA (j := 1) X rfl fl_X10_13 dX10_count_68 ?_
          refine v_iconst (v := 3) X dX10_count_71 (by decide) ?_
          refine t_iald (j := 1) X hd rfl dX10_count_72 (fun v4 hd => ?_)
          exact t_iret X hK hd ho dX10_count_73
        · have hd := Tite_f q3 hd
          by_cases q4 : p1 = 4
          · have hd := Tite_t q4 hd
            refine v_tableIn (k := 4) (off := 64) (tgt := 74) X dX10_count_10 q4 (by decide) (by decide) rfl (by decide) ?_
            refine v_aload_n X dX10_count_74 0 0 rfl rfl ?_
            refine t_getA (j := 1) X rfl fl_X10_13 dX10_count_75 ?_
            refine v_sipush (v := 341) X dX10_count_78 (by decide) ?_
            refine t_iald (j := 1) X hd rfl dX10_count_81 (fun v3 hd => ?_)
            exact t_iret X hK hd ho dX10_count_82
          · have hd := Tite_f q4 hd
            by_cases q5 : p1 = 5
            · have hd := Tite_t q5 hd
              refine v_tableIn (k := 5) (off := 73) (tgt := 83) X dX10_count_10 q5 (by decide) (by decide) rfl (by decide) ?_
              refine v_aload_n X dX10_count_83 0 0 rfl rfl ?_
              refine t_getI X hd rfl fl_X10_112 dX10_count_84 (fun v2 hd => ?_)
              exact t_iret X hK hd ho dX10_count_87
            · have hd := Tite_f q5 hd
              have eq0 := lv_neT q0 (k := 0) (a := 0) (by decide)
              have eq1 := lv_neT q1 (k := 1) (a := 1) (by decide)
              have eq2 := lv_neT q2 (k := 2) (a := 2) (by decide)
              have eq3 := lv_neT q3 (k := 3) (a := 3) (by decide)
              have eq4 := lv_neT q4 (k := 4) (a := 4) (by decide)
              have eq5 := lv_neT q5 (k := 5) (a := 5) (by decide)
              refine v_tableOut (tgt := 88) X dX10_count_10 (by omega) (by decide) ?_
              refine v_iconst (v := (-1)) X dX10_count_88 (by decide) ?_
              exact t_iret X hK hd ho dX10_count_89
def dkwX10_isIn_0 : List UInt8 := [26, 27, 161, 0, 12, 26, 28, 163, 0, 7, 4, 167, 0, 4, 3, 172]
abbrev dktX10_isIn_0 : List UInt8 := dkwX10_isIn_0 ++ []
theorem dksX10_isIn_0 : cX10_isIn.data.toList.drop 0 = dktX10_isIn_0 := by decide +kernel
theorem dX10_isIn_0 : decode cX10_isIn 0 = .ok (.iload_n 0, 1) := dk_26 (dk_at dksX10_isIn_0 0 rfl rfl)
theorem dX10_isIn_1 : decode cX10_isIn 1 = .ok (.iload_n 1, 1) := dk_27 (dk_at dksX10_isIn_0 1 rfl rfl)
theorem dX10_isIn_2 : decode cX10_isIn 2 = .ok (.if_icmp .lt 12, 3) := dk_161 0 12 (dk_at dksX10_isIn_0 2 rfl rfl)
theorem dX10_isIn_5 : decode cX10_isIn 5 = .ok (.iload_n 0, 1) := dk_26 (dk_at dksX10_isIn_0 5 rfl rfl)
theorem dX10_isIn_6 : decode cX10_isIn 6 = .ok (.iload_n 2, 1) := dk_28 (dk_at dksX10_isIn_0 6 rfl rfl)
theorem dX10_isIn_7 : decode cX10_isIn 7 = .ok (.if_icmp .gt 7, 3) := dk_163 0 7 (dk_at dksX10_isIn_0 7 rfl rfl)
theorem dX10_isIn_10 : decode cX10_isIn 10 = .ok (.iconst 1, 1) := dk_4 (dk_at dksX10_isIn_0 10 rfl rfl)
theorem dX10_isIn_11 : decode cX10_isIn 11 = .ok (.goto 4, 3) := dk_167 0 4 (dk_at dksX10_isIn_0 11 rfl rfl)
theorem dX10_isIn_14 : decode cX10_isIn 14 = .ok (.iconst 0, 1) := dk_3 (dk_at dksX10_isIn_0 14 rfl rfl)
theorem dX10_isIn_15 : decode cX10_isIn 15 = .ok (.ireturn, 1) := dk_172 (dk_at dksX10_isIn_0 15 rfl rfl)
theorem dn_X10_isIn : yX10_isIn.cls ≠ "java/lang/invoke/MethodHandle" ∧ yX10_isIn.cls ≠ "java/lang/invoke/VarHandle" ∧ (parseMethodDescriptor yX10_isIn.desc).map (fun d => d.parameters.length) = some 3 := by decide +kernel
noncomputable def M_X10_isIn (p1 : Int32) (p2 : Int32) (p3 : Int32) : TM Bool := TM.bind ((if p1 < p2 then TM.pure false else if p3 < p1 then TM.pure false else TM.pure true : TM (Bool))) (fun u1 => TM.pure u1)
set_option maxHeartbeats 4000000 in
theorem ct_X10_isIn (G : gG) (am : Nat) (p1 : Int32) (p2 : Int32) (p3 : Int32) : gCtM G am yX10_isIn cX10_isIn 3 (some .boolean) 0 0 [.int p1, .int p2, .int p3] (M_X10_isIn p1 p2 p3) (fun x : Bool => some (.int (b2i x))) := by
  refine gCtM.of (by decide) (Nat.le_of_ble_eq_true rfl) (fun K hn ms ms' r hG X hK hd ho => ?_)
  subst hG
  have X : gX K cX10_isIn 3 "BitingDoorsModel" "isIn" (some .boolean) 0 0 := X
  show V K 3 (mkM am hn ms) 0 [(0, .int p1), (1, .int p2), (2, .int p3)] []
  unfold M_X10_isIn at hd
  refine v_iload_n X dX10_isIn_0 0 0 rfl rfl ?_
  refine v_iload_n X dX10_isIn_1 1 1 rfl rfl ?_
  obtain ⟨u1, m1, hd, hd2⟩ := TM.bind_some hd
  have KJ : V K 3 (mkM am hn m1) 15 [] [.int (b2i u1)] := by
    clear hd
    have hd := hd2
    exact t_zret X hK hd rfl ho dX10_isIn_15
  clear hd2
  refine v_icmp_lt (tgt := 14) X dX10_isIn_2 (by decide) (fun q => ?_) (fun q => ?_)
  · have hd := Tite_t q hd
    refine v_iconst (v := 0) X dX10_isIn_14 (by decide) ?_
    exact v_loc [] rfl (t_at (P := fun (u1 : Bool) m => V K 3 (mkM am hn m) 15 [] [.int (b2i u1)]) hd KJ)
  · have hd := Tite_f q hd
    refine v_iload_n X dX10_isIn_5 0 0 rfl rfl ?_
    refine v_iload_n X dX10_isIn_6 2 2 rfl rfl ?_
    refine v_icmp_gt (tgt := 14) X dX10_isIn_7 (by decide) (fun q => ?_) (fun q => ?_)
    · have hd := Tite_t q hd
      refine v_iconst (v := 0) X dX10_isIn_14 (by decide) ?_
      exact v_loc [] rfl (t_at (P := fun (u1 : Bool) m => V K 3 (mkM am hn m) 15 [] [.int (b2i u1)]) hd KJ)
    · have hd := Tite_f q hd
      refine v_iconst (v := 1) X dX10_isIn_10 (by decide) ?_
      refine v_goto (tgt := 15) X dX10_isIn_11 (by decide) ?_
      exact v_loc [] rfl (t_at (P := fun (u1 : Bool) m => V K 3 (mkM am hn m) 15 [] [.int (b2i u1)]) hd KJ)
def dkwX10_isCell_1 : List UInt8 := [46, 162, 0, 7, 4, 167, 0, 4, 3, 172]
abbrev dktX10_isCell_1 : List UInt8 := dkwX10_isCell_1 ++ []
def dkwX10_isCell_0 : List UInt8 := [27, 155, 0, 31, 27, 42, 180, 0, 13, 3, 46, 162, 0, 21, 28, 155, 0, 17, 28, 42, 180, 0, 13, 4]
abbrev dktX10_isCell_0 : List UInt8 := dkwX10_isCell_0 ++ dktX10_isCell_1
theorem dksX10_isCell_0 : cX10_isCell.data.toList.drop 0 = dktX10_isCell_0 := by decide +kernel
theorem dksX10_isCell_1 : cX10_isCell.data.toList.drop 24 = dktX10_isCell_1 := dk_seg dksX10_isCell_0 24 rfl rfl
theorem dX10_isCell_0 : decode cX10_isCell 0 = .ok (.iload_n 1, 1) := dk_27 (dk_at dksX10_isCell_0 0 rfl rfl)
theorem dX10_isCell_1 : decode cX10_isCell 1 = .ok (.ifCond .lt 31, 3) := dk_155 0 31 (dk_at dksX10_isCell_0 1 rfl rfl)
theorem dX10_isCell_4 : decode cX10_isCell 4 = .ok (.iload_n 1, 1) := dk_27 (dk_at dksX10_isCell_0 4 rfl rfl)
theorem dX10_isCell_5 : decode cX10_isCell 5 = .ok (.aload_n 0, 1) := dk_42 (dk_at dksX10_isCell_0 5 rfl rfl)
theorem dX10_isCell_6 : decode cX10_isCell 6 = .ok (.getfield 13, 3) := dk_180 0 13 (dk_at dksX10_isCell_0 6 rfl rfl)
theorem dX10_isCell_9 : decode cX10_isCell 9 = .ok (.iconst 0, 1) := dk_3 (dk_at dksX10_isCell_0 9 rfl rfl)
theorem dX10_isCell_10 : decode cX10_isCell 10 = .ok (.iaload, 1) := dk_46 (dk_at dksX10_isCell_0 10 rfl rfl)
theorem dX10_isCell_11 : decode cX10_isCell 11 = .ok (.if_icmp .ge 21, 3) := dk_162 0 21 (dk_at dksX10_isCell_0 11 rfl rfl)
theorem dX10_isCell_14 : decode cX10_isCell 14 = .ok (.iload_n 2, 1) := dk_28 (dk_at dksX10_isCell_0 14 rfl rfl)
theorem dX10_isCell_15 : decode cX10_isCell 15 = .ok (.ifCond .lt 17, 3) := dk_155 0 17 (dk_at dksX10_isCell_0 15 rfl rfl)
theorem dX10_isCell_18 : decode cX10_isCell 18 = .ok (.iload_n 2, 1) := dk_28 (dk_at dksX10_isCell_0 18 rfl rfl)
theorem dX10_isCell_19 : decode cX10_isCell 19 = .ok (.aload_n 0, 1) := dk_42 (dk_at dksX10_isCell_0 19 rfl rfl)
theorem dX10_isCell_20 : decode cX10_isCell 20 = .ok (.getfield 13, 3) := dk_180 0 13 (dk_at dksX10_isCell_0 20 rfl rfl)
theorem dX10_isCell_23 : decode cX10_isCell 23 = .ok (.iconst 1, 1) := dk_4 (dk_at dksX10_isCell_0 23 rfl rfl)
theorem dX10_isCell_24 : decode cX10_isCell 24 = .ok (.iaload, 1) := dk_46 (dk_at dksX10_isCell_1 0 rfl rfl)
theorem dX10_isCell_25 : decode cX10_isCell 25 = .ok (.if_icmp .ge 7, 3) := dk_162 0 7 (dk_at dksX10_isCell_1 1 rfl rfl)
theorem dX10_isCell_28 : decode cX10_isCell 28 = .ok (.iconst 1, 1) := dk_4 (dk_at dksX10_isCell_1 4 rfl rfl)
theorem dX10_isCell_29 : decode cX10_isCell 29 = .ok (.goto 4, 3) := dk_167 0 4 (dk_at dksX10_isCell_1 5 rfl rfl)
theorem dX10_isCell_32 : decode cX10_isCell 32 = .ok (.iconst 0, 1) := dk_3 (dk_at dksX10_isCell_1 8 rfl rfl)
theorem dX10_isCell_33 : decode cX10_isCell 33 = .ok (.ireturn, 1) := dk_172 (dk_at dksX10_isCell_1 9 rfl rfl)
theorem dn_X10_isCell : yX10_isCell.cls ≠ "java/lang/invoke/MethodHandle" ∧ yX10_isCell.cls ≠ "java/lang/invoke/VarHandle" ∧ (parseMethodDescriptor yX10_isCell.desc).map (fun d => d.parameters.length) = some 2 := by decide +kernel
noncomputable def M_X10_isCell (p1 : Int32) (p2 : Int32) : TM Bool := TM.bind ((if p1 < 0 then TM.pure false else TM.bind (tA 14 704 0) (fun v2 => if v2 ≤ p1 then TM.pure false else if p2 < 0 then TM.pure false else TM.bind (tA 14 704 1) (fun v3 => if v3 ≤ p2 then TM.pure false else TM.pure true)) : TM (Bool))) (fun u1 => TM.pure u1)
set_option maxHeartbeats 4000000 in
theorem ct_X10_isCell (G : gG) (am : Nat) (p1 : Int32) (p2 : Int32) : gCtM G am yX10_isCell cX10_isCell 3 (some .boolean) 0 0 [.ref am, .int p1, .int p2] (M_X10_isCell p1 p2) (fun x : Bool => some (.int (b2i x))) := by
  refine gCtM.of (by decide) (Nat.le_of_ble_eq_true rfl) (fun K hn ms ms' r hG X hK hd ho => ?_)
  subst hG
  have X : gX K cX10_isCell 3 "BitingDoorsModel" "isCell" (some .boolean) 0 0 := X
  show V K 3 (mkM am hn ms) 0 [(0, .ref am), (1, .int p1), (2, .int p2)] []
  unfold M_X10_isCell at hd
  refine v_iload_n X dX10_isCell_0 1 1 rfl rfl ?_
  obtain ⟨u1, m1, hd, hd2⟩ := TM.bind_some hd
  have KJ : V K 3 (mkM am hn m1) 33 [] [.int (b2i u1)] := by
    clear hd
    have hd := hd2
    exact t_zret X hK hd rfl ho dX10_isCell_33
  clear hd2
  refine v_if_lt (tgt := 32) X dX10_isCell_1 (by decide) (fun q => ?_) (fun q => ?_)
  · have hd := Tite_t q hd
    refine v_iconst (v := 0) X dX10_isCell_32 (by decide) ?_
    exact v_loc [] rfl (t_at (P := fun (u1 : Bool) m => V K 3 (mkM am hn m) 33 [] [.int (b2i u1)]) hd KJ)
  · have hd := Tite_f q hd
    refine v_iload_n X dX10_isCell_4 1 1 rfl rfl ?_
    refine v_aload_n X dX10_isCell_5 0 0 rfl rfl ?_
    refine t_getA (j := 1) X rfl fl_X10_13 dX10_isCell_6 ?_
    refine v_iconst (v := 0) X dX10_isCell_9 (by decide) ?_
    refine t_iald (j := 1) X hd rfl dX10_isCell_10 (fun v2 hd => ?_)
    refine v_icmp_ge (tgt := 32) X dX10_isCell_11 (by decide) (fun q => ?_) (fun q => ?_)
    · have hd := Tite_t q hd
      refine v_iconst (v := 0) X dX10_isCell_32 (by decide) ?_
      exact v_loc [] rfl (t_at (P := fun (u1 : Bool) m => V K 3 (mkM am hn m) 33 [] [.int (b2i u1)]) hd KJ)
    · have hd := Tite_f q hd
      refine v_iload_n X dX10_isCell_14 2 2 rfl rfl ?_
      refine v_if_lt (tgt := 32) X dX10_isCell_15 (by decide) (fun q => ?_) (fun q => ?_)
      · have hd := Tite_t q hd
        refine v_iconst (v := 0) X dX10_isCell_32 (by decide) ?_
        exact v_loc [] rfl (t_at (P := fun (u1 : Bool) m => V K 3 (mkM am hn m) 33 [] [.int (b2i u1)]) hd KJ)
      · have hd := Tite_f q hd
        refine v_iload_n X dX10_isCell_18 2 2 rfl rfl ?_
        refine v_aload_n X dX10_isCell_19 0 0 rfl rfl ?_
        refine t_getA (j := 1) X rfl fl_X10_13 dX10_isCell_20 ?_
        refine v_iconst (v := 1) X dX10_isCell_23 (by decide) ?_
        refine t_iald (j := 1) X hd rfl dX10_isCell_24 (fun v3 hd => ?_)
        refine v_icmp_ge (tgt := 32) X dX10_isCell_25 (by decide) (fun q => ?_) (fun q => ?_)
        · have hd := Tite_t q hd
          refine v_iconst (v := 0) X dX10_isCell_32 (by decide) ?_
          exact v_loc [] rfl (t_at (P := fun (u1 : Bool) m => V K 3 (mkM am hn m) 33 [] [.int (b2i u1)]) hd KJ)
        · have hd := Tite_f q hd
          refine v_iconst (v := 1) X dX10_isCell_28 (by decide) ?_
          refine v_goto (tgt := 33) X dX10_isCell_29 (by decide) ?_
          exact v_loc [] rfl (t_at (P := fun (u1 : Bool) m => V K 3 (mkM am hn m) 33 [] [.int (b2i u1)]) hd KJ)
def dkwX10_of_0 : List UInt8 := [42, 180, 0, 13, 16, 110, 16, 10, 27, 104, 96, 28, 96, 46, 172]
abbrev dktX10_of_0 : List UInt8 := dkwX10_of_0 ++ []
theorem dksX10_of_0 : cX10_of.data.toList.drop 0 = dktX10_of_0 := by decide +kernel
theorem dX10_of_0 : decode cX10_of 0 = .ok (.aload_n 0, 1) := dk_42 (dk_at dksX10_of_0 0 rfl rfl)
theorem dX10_of_1 : decode cX10_of 1 = .ok (.getfield 13, 3) := dk_180 0 13 (dk_at dksX10_of_0 1 rfl rfl)
theorem dX10_of_4 : decode cX10_of 4 = .ok (.bipush 110, 2) := dk_16 110 (dk_at dksX10_of_0 4 rfl rfl)
theorem dX10_of_6 : decode cX10_of 6 = .ok (.bipush 10, 2) := dk_16 10 (dk_at dksX10_of_0 6 rfl rfl)
theorem dX10_of_8 : decode cX10_of 8 = .ok (.iload_n 1, 1) := dk_27 (dk_at dksX10_of_0 8 rfl rfl)
theorem dX10_of_9 : decode cX10_of 9 = .ok (.imul, 1) := dk_104 (dk_at dksX10_of_0 9 rfl rfl)
theorem dX10_of_10 : decode cX10_of 10 = .ok (.iadd, 1) := dk_96 (dk_at dksX10_of_0 10 rfl rfl)
theorem dX10_of_11 : decode cX10_of 11 = .ok (.iload_n 2, 1) := dk_28 (dk_at dksX10_of_0 11 rfl rfl)
theorem dX10_of_12 : decode cX10_of 12 = .ok (.iadd, 1) := dk_96 (dk_at dksX10_of_0 12 rfl rfl)
theorem dX10_of_13 : decode cX10_of 13 = .ok (.iaload, 1) := dk_46 (dk_at dksX10_of_0 13 rfl rfl)
theorem dX10_of_14 : decode cX10_of 14 = .ok (.ireturn, 1) := dk_172 (dk_at dksX10_of_0 14 rfl rfl)
theorem dn_X10_of : yX10_of.cls ≠ "java/lang/invoke/MethodHandle" ∧ yX10_of.cls ≠ "java/lang/invoke/VarHandle" ∧ (parseMethodDescriptor yX10_of.desc).map (fun d => d.parameters.length) = some 2 := by decide +kernel
noncomputable def M_X10_of (p1 : Int32) (p2 : Int32) : TM Int32 := TM.bind (tA 14 704 ((110 + (10 * p1)) + p2)) (fun v1 => TM.pure v1)
set_option maxHeartbeats 4000000 in
theorem ct_X10_of (G : gG) (am : Nat) (p1 : Int32) (p2 : Int32) : gCtM G am yX10_of cX10_of 3 (some .int) 0 0 [.ref am, .int p1, .int p2] (M_X10_of p1 p2) (fun x : Int32 => some (.int x)) := by
  refine gCtM.of (by decide) (Nat.le_of_ble_eq_true rfl) (fun K hn ms ms' r hG X hK hd ho => ?_)
  subst hG
  have X : gX K cX10_of 3 "BitingDoorsModel" "of" (some .int) 0 0 := X
  show V K 3 (mkM am hn ms) 0 [(0, .ref am), (1, .int p1), (2, .int p2)] []
  unfold M_X10_of at hd
  refine v_aload_n X dX10_of_0 0 0 rfl rfl ?_
  refine t_getA (j := 1) X rfl fl_X10_13 dX10_of_1 ?_
  refine v_bipush (v := 110) X dX10_of_4 (by decide) ?_
  refine v_bipush (v := 10) X dX10_of_6 (by decide) ?_
  refine v_iload_n X dX10_of_8 1 1 rfl rfl ?_
  refine v_imul X dX10_of_9 ?_
  refine v_iadd X dX10_of_10 ?_
  refine v_iload_n X dX10_of_11 2 2 rfl rfl ?_
  refine v_iadd X dX10_of_12 ?_
  refine t_iald (j := 1) X hd rfl dX10_of_13 (fun v1 hd => ?_)
  exact t_iret X hK hd ho dX10_of_14
def dkwX10_put_1 : List UInt8 := [180, 1, 15, 4, 96, 181, 1, 15, 177]
abbrev dktX10_put_1 : List UInt8 := dkwX10_put_1 ++ []
def dkwX10_put_0 : List UInt8 := [42, 180, 0, 39, 42, 180, 1, 15, 27, 79, 42, 180, 0, 42, 42, 180, 1, 15, 28, 79, 42, 89]
abbrev dktX10_put_0 : List UInt8 := dkwX10_put_0 ++ dktX10_put_1
theorem dksX10_put_0 : cX10_put.data.toList.drop 0 = dktX10_put_0 := by decide +kernel
theorem dksX10_put_1 : cX10_put.data.toList.drop 22 = dktX10_put_1 := dk_seg dksX10_put_0 22 rfl rfl
theorem dX10_put_0 : decode cX10_put 0 = .ok (.aload_n 0, 1) := dk_42 (dk_at dksX10_put_0 0 rfl rfl)
theorem dX10_put_1 : decode cX10_put 1 = .ok (.getfield 39, 3) := dk_180 0 39 (dk_at dksX10_put_0 1 rfl rfl)
theorem dX10_put_4 : decode cX10_put 4 = .ok (.aload_n 0, 1) := dk_42 (dk_at dksX10_put_0 4 rfl rfl)
theorem dX10_put_5 : decode cX10_put 5 = .ok (.getfield 271, 3) := dk_180 1 15 (dk_at dksX10_put_0 5 rfl rfl)
theorem dX10_put_8 : decode cX10_put 8 = .ok (.iload_n 1, 1) := dk_27 (dk_at dksX10_put_0 8 rfl rfl)
theorem dX10_put_9 : decode cX10_put 9 = .ok (.iastore, 1) := dk_79 (dk_at dksX10_put_0 9 rfl rfl)
theorem dX10_put_10 : decode cX10_put 10 = .ok (.aload_n 0, 1) := dk_42 (dk_at dksX10_put_0 10 rfl rfl)
theorem dX10_put_11 : decode cX10_put 11 = .ok (.getfield 42, 3) := dk_180 0 42 (dk_at dksX10_put_0 11 rfl rfl)
theorem dX10_put_14 : decode cX10_put 14 = .ok (.aload_n 0, 1) := dk_42 (dk_at dksX10_put_0 14 rfl rfl)
theorem dX10_put_15 : decode cX10_put 15 = .ok (.getfield 271, 3) := dk_180 1 15 (dk_at dksX10_put_0 15 rfl rfl)
theorem dX10_put_18 : decode cX10_put 18 = .ok (.iload_n 2, 1) := dk_28 (dk_at dksX10_put_0 18 rfl rfl)
theorem dX10_put_19 : decode cX10_put 19 = .ok (.iastore, 1) := dk_79 (dk_at dksX10_put_0 19 rfl rfl)
theorem dX10_put_20 : decode cX10_put 20 = .ok (.aload_n 0, 1) := dk_42 (dk_at dksX10_put_0 20 rfl rfl)
theorem dX10_put_21 : decode cX10_put 21 = .ok (.dup, 1) := dk_89 (dk_at dksX10_put_0 21 rfl rfl)
theorem dX10_put_22 : decode cX10_put 22 = .ok (.getfield 271, 3) := dk_180 1 15 (dk_at dksX10_put_1 0 rfl rfl)
theorem dX10_put_25 : decode cX10_put 25 = .ok (.iconst 1, 1) := dk_4 (dk_at dksX10_put_1 3 rfl rfl)
theorem dX10_put_26 : decode cX10_put 26 = .ok (.iadd, 1) := dk_96 (dk_at dksX10_put_1 4 rfl rfl)
theorem dX10_put_27 : decode cX10_put 27 = .ok (.putfield 271, 3) := dk_181 1 15 (dk_at dksX10_put_1 5 rfl rfl)
theorem dX10_put_30 : decode cX10_put 30 = .ok (.return_, 1) := dk_177 (dk_at dksX10_put_1 8 rfl rfl)
theorem fl_X10_271 : gFl "BitingDoorsModel" 271 [8] 26 := by
  intro args s hts hN ci hc
  simp only [List.mem_cons, List.not_mem_nil, or_false] at hc
  subst hc
  exact ⟨RX10, TX10, 64, "BitingDoorsModel", gCl_X10, in_X10, by decide, Or.inl (hts _ q1676), fun _ h => h⟩
theorem fl_X10_39 : gFl "BitingDoorsModel" 39 [8] 24 := by
  intro args s hts hN ci hc
  simp only [List.mem_cons, List.not_mem_nil, or_false] at hc
  subst hc
  exact ⟨RX10, TX10, 64, "BitingDoorsModel", gCl_X10, in_X10, by decide, Or.inl (hts _ q1674), fun _ h => h⟩
theorem fl_X10_42 : gFl "BitingDoorsModel" 42 [8] 25 := by
  intro args s hts hN ci hc
  simp only [List.mem_cons, List.not_mem_nil, or_false] at hc
  subst hc
  exact ⟨RX10, TX10, 64, "BitingDoorsModel", gCl_X10, in_X10, by decide, Or.inl (hts _ q1675), fun _ h => h⟩
theorem fp_X10_271 {nm : String} : gFp "BitingDoorsModel" nm 271 [8] 26 .int := by
  intro args s hts hN ci hc
  simp only [List.mem_cons, List.not_mem_nil, or_false] at hc
  subst hc
  exact ⟨RX10, TX10, 64, "BitingDoorsModel", gCl_X10, in_X10, by decide, Or.inl ⟨rfl, Or.inl (hts _ q1676)⟩, fun _ h => h, rfl, fun D tys hK => gap_X10 hts hK⟩
theorem dn_X10_put : yX10_put.cls ≠ "java/lang/invoke/MethodHandle" ∧ yX10_put.cls ≠ "java/lang/invoke/VarHandle" ∧ (parseMethodDescriptor yX10_put.desc).map (fun d => d.parameters.length) = some 2 := by decide +kernel
noncomputable def M_X10_put (p1 : Int32) (p2 : Int32) : TM Unit := TM.bind (tI 26) (fun v1 => TM.bind (sA 24 4 v1 p1) (fun _ => TM.bind (tI 26) (fun v2 => TM.bind (sA 25 4 v2 p2) (fun _ => TM.bind (tI 26) (fun v3 => TM.bind (sI 26 (v3 + 1)) (fun _ => TM.pure ()))))))
set_option maxHeartbeats 4000000 in
theorem ct_X10_put (G : gG) (am : Nat) (p1 : Int32) (p2 : Int32) : gCtM G am yX10_put cX10_put 3 none 0 0 [.ref am, .int p1, .int p2] (M_X10_put p1 p2) (fun _ : Unit => none) := by
  refine gCtM.of (by decide) (Nat.le_of_ble_eq_true rfl) (fun K hn ms ms' r hG X hK hd ho => ?_)
  subst hG
  have X : gX K cX10_put 3 "BitingDoorsModel" "put" none 0 0 := X
  show V K 3 (mkM am hn ms) 0 [(0, .ref am), (1, .int p1), (2, .int p2)] []
  unfold M_X10_put at hd
  refine v_aload_n X dX10_put_0 0 0 rfl rfl ?_
  refine t_getA (j := 9) X rfl fl_X10_39 dX10_put_1 ?_
  refine v_aload_n X dX10_put_4 0 0 rfl rfl ?_
  refine t_getI X hd rfl fl_X10_271 dX10_put_5 (fun v1 hd => ?_)
  refine v_iload_n X dX10_put_8 1 1 rfl rfl ?_
  refine t_iast (j := 9) X hd rfl dX10_put_9 (fun ms hd => ?_)
  refine v_aload_n X dX10_put_10 0 0 rfl rfl ?_
  refine t_getA (j := 10) X rfl fl_X10_42 dX10_put_11 ?_
  refine v_aload_n X dX10_put_14 0 0 rfl rfl ?_
  refine t_getI X hd rfl fl_X10_271 dX10_put_15 (fun v2 hd => ?_)
  refine v_iload_n X dX10_put_18 2 2 rfl rfl ?_
  refine t_iast (j := 10) X hd rfl dX10_put_19 (fun ms hd => ?_)
  refine v_aload_n X dX10_put_20 0 0 rfl rfl ?_
  refine v_dup X dX10_put_21 rfl ?_
  refine t_getI X hd rfl fl_X10_271 dX10_put_22 (fun v3 hd => ?_)
  refine v_iconst (v := 1) X dX10_put_25 (by decide) ?_
  refine v_iadd X dX10_put_26 ?_
  refine t_putI X hd rfl fp_X10_271 dX10_put_27 (fun ms hd => ?_)
  exact t_vret X hK hd ho dX10_put_30
def dkwX10_layLeaf_13 : List UInt8 := [21, 12, 96, 182, 1, 18, 132, 11, 1, 167, 255, 163, 177]
abbrev dktX10_layLeaf_13 : List UInt8 := dkwX10_layLeaf_13 ++ []
def dkwX10_layLeaf_12 : List UInt8 := [21, 13, 153, 0, 8, 21, 12, 167, 0, 4, 3, 96, 21, 10, 21, 13, 153, 0, 7, 3, 167, 0, 5]
abbrev dktX10_layLeaf_12 : List UInt8 := dkwX10_layLeaf_12 ++ dktX10_layLeaf_13
def dkwX10_layLeaf_11 : List UInt8 := [4, 167, 0, 18, 3, 167, 0, 14, 21, 5, 4, 160, 0, 7, 4, 167, 0, 4, 3, 54, 13, 42, 21, 9]
abbrev dktX10_layLeaf_11 : List UInt8 := dkwX10_layLeaf_11 ++ dktX10_layLeaf_12
def dkwX10_layLeaf_10 : List UInt8 := [21, 11, 104, 167, 0, 10, 21, 7, 21, 11, 4, 96, 104, 54, 12, 29, 154, 0, 16, 21, 5, 154, 0, 7]
abbrev dktX10_layLeaf_10 : List UInt8 := dkwX10_layLeaf_10 ++ dktX10_layLeaf_11
def dkwX10_layLeaf_9 : List UInt8 := [132, 12, 1, 167, 255, 168, 177, 3, 54, 11, 21, 11, 21, 4, 162, 0, 92, 29, 154, 0, 11, 21, 6]
abbrev dktX10_layLeaf_9 : List UInt8 := dkwX10_layLeaf_9 ++ dktX10_layLeaf_10
def dkwX10_layLeaf_8 : List UInt8 := [21, 7, 21, 13, 104, 167, 0, 8, 21, 6, 21, 12, 104, 96, 182, 1, 18, 132, 13, 1, 167, 255, 184]
abbrev dktX10_layLeaf_8 : List UInt8 := dkwX10_layLeaf_8 ++ dktX10_layLeaf_9
def dkwX10_layLeaf_7 : List UInt8 := [154, 0, 11, 21, 6, 21, 12, 104, 167, 0, 8, 21, 7, 21, 13, 104, 96, 21, 10, 21, 5, 154, 0, 11]
abbrev dktX10_layLeaf_7 : List UInt8 := dkwX10_layLeaf_7 ++ dktX10_layLeaf_8
def dkwX10_layLeaf_6 : List UInt8 := [163, 0, 71, 21, 13, 21, 12, 159, 0, 12, 21, 13, 21, 12, 4, 96, 160, 0, 49, 42, 21, 9, 21, 5]
abbrev dktX10_layLeaf_6 : List UInt8 := dkwX10_layLeaf_6 ++ dktX10_layLeaf_7
def dkwX10_layLeaf_5 : List UInt8 := [167, 0, 4, 4, 54, 11, 3, 54, 12, 21, 12, 21, 4, 162, 0, 87, 4, 54, 13, 21, 13, 21, 11]
abbrev dktX10_layLeaf_5 : List UInt8 := dkwX10_layLeaf_5 ++ dktX10_layLeaf_6
def dkwX10_layLeaf_4 : List UInt8 := [3, 96, 54, 10, 42, 3, 181, 1, 15, 29, 4, 160, 0, 114, 21, 4, 4, 164, 0, 10, 21, 4, 4, 100]
abbrev dktX10_layLeaf_4 : List UInt8 := dkwX10_layLeaf_4 ++ dktX10_layLeaf_5
def dkwX10_layLeaf_3 : List UInt8 := [167, 0, 4, 3, 96, 54, 9, 42, 27, 4, 182, 1, 11, 21, 5, 4, 160, 0, 8, 21, 8, 167, 0, 4]
abbrev dktX10_layLeaf_3 : List UInt8 := dkwX10_layLeaf_3 ++ dktX10_layLeaf_4
def dkwX10_layLeaf_2 : List UInt8 := [3, 167, 0, 7, 21, 4, 4, 100, 54, 8, 42, 27, 3, 182, 1, 11, 21, 5, 154, 0, 8, 21, 8]
abbrev dktX10_layLeaf_2 : List UInt8 := dkwX10_layLeaf_2 ++ dktX10_layLeaf_3
def dkwX10_layLeaf_1 : List UInt8 := [167, 0, 4, 2, 54, 6, 28, 5, 162, 0, 7, 2, 167, 0, 4, 4, 54, 7, 28, 5, 112, 154, 0, 7]
abbrev dktX10_layLeaf_1 : List UInt8 := dkwX10_layLeaf_1 ++ dktX10_layLeaf_2
def dkwX10_layLeaf_0 : List UInt8 := [42, 27, 6, 182, 1, 11, 54, 4, 42, 27, 5, 182, 1, 11, 54, 5, 28, 5, 112, 154, 0, 7, 4]
abbrev dktX10_layLeaf_0 : List UInt8 := dkwX10_layLeaf_0 ++ dktX10_layLeaf_1
theorem dksX10_layLeaf_0 : cX10_layLeaf.data.toList.drop 0 = dktX10_layLeaf_0 := by decide +kernel
theorem dksX10_layLeaf_1 : cX10_layLeaf.data.toList.drop 23 = dktX10_layLeaf_1 := dk_seg dksX10_layLeaf_0 23 rfl rfl
theorem dksX10_layLeaf_2 : cX10_layLeaf.data.toList.drop 47 = dktX10_layLeaf_2 := dk_seg dksX10_layLeaf_1 24 rfl rfl
theorem dksX10_layLeaf_3 : cX10_layLeaf.data.toList.drop 70 = dktX10_layLeaf_3 := dk_seg dksX10_layLeaf_2 23 rfl rfl
theorem dksX10_layLeaf_4 : cX10_layLeaf.data.toList.drop 94 = dktX10_layLeaf_4 := dk_seg dksX10_layLeaf_3 24 rfl rfl
theorem dksX10_layLeaf_5 : cX10_layLeaf.data.toList.drop 118 = dktX10_layLeaf_5 := dk_seg dksX10_layLeaf_4 24 rfl rfl
theorem dksX10_layLeaf_6 : cX10_layLeaf.data.toList.drop 141 = dktX10_layLeaf_6 := dk_seg dksX10_layLeaf_5 23 rfl rfl
theorem dksX10_layLeaf_7 : cX10_layLeaf.data.toList.drop 165 = dktX10_layLeaf_7 := dk_seg dksX10_layLeaf_6 24 rfl rfl
theorem dksX10_layLeaf_8 : cX10_layLeaf.data.toList.drop 189 = dktX10_layLeaf_8 := dk_seg dksX10_layLeaf_7 24 rfl rfl
theorem dksX10_layLeaf_9 : cX10_layLeaf.data.toList.drop 212 = dktX10_layLeaf_9 := dk_seg dksX10_layLeaf_8 23 rfl rfl
theorem dksX10_layLeaf_10 : cX10_layLeaf.data.toList.drop 235 = dktX10_layLeaf_10 := dk_seg dksX10_layLeaf_9 23 rfl rfl
theorem dksX10_layLeaf_11 : cX10_layLeaf.data.toList.drop 259 = dktX10_layLeaf_11 := dk_seg dksX10_layLeaf_10 24 rfl rfl
theorem dksX10_layLeaf_12 : cX10_layLeaf.data.toList.drop 283 = dktX10_layLeaf_12 := dk_seg dksX10_layLeaf_11 24 rfl rfl
theorem dksX10_layLeaf_13 : cX10_layLeaf.data.toList.drop 306 = dktX10_layLeaf_13 := dk_seg dksX10_layLeaf_12 23 rfl rfl
theorem dX10_layLeaf_0 : decode cX10_layLeaf 0 = .ok (.aload_n 0, 1) := dk_42 (dk_at dksX10_layLeaf_0 0 rfl rfl)
theorem dX10_layLeaf_1 : decode cX10_layLeaf 1 = .ok (.iload_n 1, 1) := dk_27 (dk_at dksX10_layLeaf_0 1 rfl rfl)
theorem dX10_layLeaf_2 : decode cX10_layLeaf 2 = .ok (.iconst 3, 1) := dk_6 (dk_at dksX10_layLeaf_0 2 rfl rfl)
theorem dX10_layLeaf_3 : decode cX10_layLeaf 3 = .ok (.invokevirtual 267, 3) := dk_182 1 11 (dk_at dksX10_layLeaf_0 3 rfl rfl)
theorem dX10_layLeaf_6 : decode cX10_layLeaf 6 = .ok (.istore 4, 2) := dk_54 4 (dk_at dksX10_layLeaf_0 6 rfl rfl)
theorem dX10_layLeaf_8 : decode cX10_layLeaf 8 = .ok (.aload_n 0, 1) := dk_42 (dk_at dksX10_layLeaf_0 8 rfl rfl)
theorem dX10_layLeaf_9 : decode cX10_layLeaf 9 = .ok (.iload_n 1, 1) := dk_27 (dk_at dksX10_layLeaf_0 9 rfl rfl)
theorem dX10_layLeaf_10 : decode cX10_layLeaf 10 = .ok (.iconst 2, 1) := dk_5 (dk_at dksX10_layLeaf_0 10 rfl rfl)
theorem dX10_layLeaf_11 : decode cX10_layLeaf 11 = .ok (.invokevirtual 267, 3) := dk_182 1 11 (dk_at dksX10_layLeaf_0 11 rfl rfl)
theorem dX10_layLeaf_14 : decode cX10_layLeaf 14 = .ok (.istore 5, 2) := dk_54 5 (dk_at dksX10_layLeaf_0 14 rfl rfl)
theorem dX10_layLeaf_16 : decode cX10_layLeaf 16 = .ok (.iload_n 2, 1) := dk_28 (dk_at dksX10_layLeaf_0 16 rfl rfl)
theorem dX10_layLeaf_17 : decode cX10_layLeaf 17 = .ok (.iconst 2, 1) := dk_5 (dk_at dksX10_layLeaf_0 17 rfl rfl)
theorem dX10_layLeaf_18 : decode cX10_layLeaf 18 = .ok (.irem, 1) := dk_112 (dk_at dksX10_layLeaf_0 18 rfl rfl)
theorem dX10_layLeaf_19 : decode cX10_layLeaf 19 = .ok (.ifCond .ne 7, 3) := dk_154 0 7 (dk_at dksX10_layLeaf_0 19 rfl rfl)
theorem dX10_layLeaf_22 : decode cX10_layLeaf 22 = .ok (.iconst 1, 1) := dk_4 (dk_at dksX10_layLeaf_0 22 rfl rfl)
theorem dX10_layLeaf_23 : decode cX10_layLeaf 23 = .ok (.goto 4, 3) := dk_167 0 4 (dk_at dksX10_layLeaf_1 0 rfl rfl)
theorem dX10_layLeaf_26 : decode cX10_layLeaf 26 = .ok (.iconst (-1), 1) := dk_2 (dk_at dksX10_layLeaf_1 3 rfl rfl)
theorem dX10_layLeaf_27 : decode cX10_layLeaf 27 = .ok (.istore 6, 2) := dk_54 6 (dk_at dksX10_layLeaf_1 4 rfl rfl)
theorem dX10_layLeaf_29 : decode cX10_layLeaf 29 = .ok (.iload_n 2, 1) := dk_28 (dk_at dksX10_layLeaf_1 6 rfl rfl)
theorem dX10_layLeaf_30 : decode cX10_layLeaf 30 = .ok (.iconst 2, 1) := dk_5 (dk_at dksX10_layLeaf_1 7 rfl rfl)
theorem dX10_layLeaf_31 : decode cX10_layLeaf 31 = .ok (.if_icmp .ge 7, 3) := dk_162 0 7 (dk_at dksX10_layLeaf_1 8 rfl rfl)
theorem dX10_layLeaf_34 : decode cX10_layLeaf 34 = .ok (.iconst (-1), 1) := dk_2 (dk_at dksX10_layLeaf_1 11 rfl rfl)
theorem dX10_layLeaf_35 : decode cX10_layLeaf 35 = .ok (.goto 4, 3) := dk_167 0 4 (dk_at dksX10_layLeaf_1 12 rfl rfl)
theorem dX10_layLeaf_38 : decode cX10_layLeaf 38 = .ok (.iconst 1, 1) := dk_4 (dk_at dksX10_layLeaf_1 15 rfl rfl)
theorem dX10_layLeaf_39 : decode cX10_layLeaf 39 = .ok (.istore 7, 2) := dk_54 7 (dk_at dksX10_layLeaf_1 16 rfl rfl)
theorem dX10_layLeaf_41 : decode cX10_layLeaf 41 = .ok (.iload_n 2, 1) := dk_28 (dk_at dksX10_layLeaf_1 18 rfl rfl)
theorem dX10_layLeaf_42 : decode cX10_layLeaf 42 = .ok (.iconst 2, 1) := dk_5 (dk_at dksX10_layLeaf_1 19 rfl rfl)
theorem dX10_layLeaf_43 : decode cX10_layLeaf 43 = .ok (.irem, 1) := dk_112 (dk_at dksX10_layLeaf_1 20 rfl rfl)
theorem dX10_layLeaf_44 : decode cX10_layLeaf 44 = .ok (.ifCond .ne 7, 3) := dk_154 0 7 (dk_at dksX10_layLeaf_1 21 rfl rfl)
theorem dX10_layLeaf_47 : decode cX10_layLeaf 47 = .ok (.iconst 0, 1) := dk_3 (dk_at dksX10_layLeaf_2 0 rfl rfl)
theorem dX10_layLeaf_48 : decode cX10_layLeaf 48 = .ok (.goto 7, 3) := dk_167 0 7 (dk_at dksX10_layLeaf_2 1 rfl rfl)
theorem dX10_layLeaf_51 : decode cX10_layLeaf 51 = .ok (.iload 4, 2) := dk_21 4 (dk_at dksX10_layLeaf_2 4 rfl rfl)
theorem dX10_layLeaf_53 : decode cX10_layLeaf 53 = .ok (.iconst 1, 1) := dk_4 (dk_at dksX10_layLeaf_2 6 rfl rfl)
theorem dX10_layLeaf_54 : decode cX10_layLeaf 54 = .ok (.isub, 1) := dk_100 (dk_at dksX10_layLeaf_2 7 rfl rfl)
theorem dX10_layLeaf_55 : decode cX10_layLeaf 55 = .ok (.istore 8, 2) := dk_54 8 (dk_at dksX10_layLeaf_2 8 rfl rfl)
theorem dX10_layLeaf_57 : decode cX10_layLeaf 57 = .ok (.aload_n 0, 1) := dk_42 (dk_at dksX10_layLeaf_2 10 rfl rfl)
theorem dX10_layLeaf_58 : decode cX10_layLeaf 58 = .ok (.iload_n 1, 1) := dk_27 (dk_at dksX10_layLeaf_2 11 rfl rfl)
theorem dX10_layLeaf_59 : decode cX10_layLeaf 59 = .ok (.iconst 0, 1) := dk_3 (dk_at dksX10_layLeaf_2 12 rfl rfl)
theorem dX10_layLeaf_60 : decode cX10_layLeaf 60 = .ok (.invokevirtual 267, 3) := dk_182 1 11 (dk_at dksX10_layLeaf_2 13 rfl rfl)
theorem dX10_layLeaf_63 : decode cX10_layLeaf 63 = .ok (.iload 5, 2) := dk_21 5 (dk_at dksX10_layLeaf_2 16 rfl rfl)
theorem dX10_layLeaf_65 : decode cX10_layLeaf 65 = .ok (.ifCond .ne 8, 3) := dk_154 0 8 (dk_at dksX10_layLeaf_2 18 rfl rfl)
theorem dX10_layLeaf_68 : decode cX10_layLeaf 68 = .ok (.iload 8, 2) := dk_21 8 (dk_at dksX10_layLeaf_2 21 rfl rfl)
theorem dX10_layLeaf_70 : decode cX10_layLeaf 70 = .ok (.goto 4, 3) := dk_167 0 4 (dk_at dksX10_layLeaf_3 0 rfl rfl)
theorem dX10_layLeaf_73 : decode cX10_layLeaf 73 = .ok (.iconst 0, 1) := dk_3 (dk_at dksX10_layLeaf_3 3 rfl rfl)
theorem dX10_layLeaf_74 : decode cX10_layLeaf 74 = .ok (.iadd, 1) := dk_96 (dk_at dksX10_layLeaf_3 4 rfl rfl)
theorem dX10_layLeaf_75 : decode cX10_layLeaf 75 = .ok (.istore 9, 2) := dk_54 9 (dk_at dksX10_layLeaf_3 5 rfl rfl)
theorem dX10_layLeaf_77 : decode cX10_layLeaf 77 = .ok (.aload_n 0, 1) := dk_42 (dk_at dksX10_layLeaf_3 7 rfl rfl)
theorem dX10_layLeaf_78 : decode cX10_layLeaf 78 = .ok (.iload_n 1, 1) := dk_27 (dk_at dksX10_layLeaf_3 8 rfl rfl)
theorem dX10_layLeaf_79 : decode cX10_layLeaf 79 = .ok (.iconst 1, 1) := dk_4 (dk_at dksX10_layLeaf_3 9 rfl rfl)
theorem dX10_layLeaf_80 : decode cX10_layLeaf 80 = .ok (.invokevirtual 267, 3) := dk_182 1 11 (dk_at dksX10_layLeaf_3 10 rfl rfl)
theorem dX10_layLeaf_83 : decode cX10_layLeaf 83 = .ok (.iload 5, 2) := dk_21 5 (dk_at dksX10_layLeaf_3 13 rfl rfl)
theorem dX10_layLeaf_85 : decode cX10_layLeaf 85 = .ok (.iconst 1, 1) := dk_4 (dk_at dksX10_layLeaf_3 15 rfl rfl)
theorem dX10_layLeaf_86 : decode cX10_layLeaf 86 = .ok (.if_icmp .ne 8, 3) := dk_160 0 8 (dk_at dksX10_layLeaf_3 16 rfl rfl)
theorem dX10_layLeaf_89 : decode cX10_layLeaf 89 = .ok (.iload 8, 2) := dk_21 8 (dk_at dksX10_layLeaf_3 19 rfl rfl)
theorem dX10_layLeaf_91 : decode cX10_layLeaf 91 = .ok (.goto 4, 3) := dk_167 0 4 (dk_at dksX10_layLeaf_3 21 rfl rfl)
theorem dX10_layLeaf_94 : decode cX10_layLeaf 94 = .ok (.iconst 0, 1) := dk_3 (dk_at dksX10_layLeaf_4 0 rfl rfl)
theorem dX10_layLeaf_95 : decode cX10_layLeaf 95 = .ok (.iadd, 1) := dk_96 (dk_at dksX10_layLeaf_4 1 rfl rfl)
theorem dX10_layLeaf_96 : decode cX10_layLeaf 96 = .ok (.istore 10, 2) := dk_54 10 (dk_at dksX10_layLeaf_4 2 rfl rfl)
theorem dX10_layLeaf_98 : decode cX10_layLeaf 98 = .ok (.aload_n 0, 1) := dk_42 (dk_at dksX10_layLeaf_4 4 rfl rfl)
theorem dX10_layLeaf_99 : decode cX10_layLeaf 99 = .ok (.iconst 0, 1) := dk_3 (dk_at dksX10_layLeaf_4 5 rfl rfl)
theorem dX10_layLeaf_100 : decode cX10_layLeaf 100 = .ok (.putfield 271, 3) := dk_181 1 15 (dk_at dksX10_layLeaf_4 6 rfl rfl)
theorem dX10_layLeaf_103 : decode cX10_layLeaf 103 = .ok (.iload_n 3, 1) := dk_29 (dk_at dksX10_layLeaf_4 9 rfl rfl)
theorem dX10_layLeaf_104 : decode cX10_layLeaf 104 = .ok (.iconst 1, 1) := dk_4 (dk_at dksX10_layLeaf_4 10 rfl rfl)
theorem dX10_layLeaf_105 : decode cX10_layLeaf 105 = .ok (.if_icmp .ne 114, 3) := dk_160 0 114 (dk_at dksX10_layLeaf_4 11 rfl rfl)
theorem dX10_layLeaf_108 : decode cX10_layLeaf 108 = .ok (.iload 4, 2) := dk_21 4 (dk_at dksX10_layLeaf_4 14 rfl rfl)
theorem dX10_layLeaf_110 : decode cX10_layLeaf 110 = .ok (.iconst 1, 1) := dk_4 (dk_at dksX10_layLeaf_4 16 rfl rfl)
theorem dX10_layLeaf_111 : decode cX10_layLeaf 111 = .ok (.if_icmp .le 10, 3) := dk_164 0 10 (dk_at dksX10_layLeaf_4 17 rfl rfl)
theorem dX10_layLeaf_114 : decode cX10_layLeaf 114 = .ok (.iload 4, 2) := dk_21 4 (dk_at dksX10_layLeaf_4 20 rfl rfl)
theorem dX10_layLeaf_116 : decode cX10_layLeaf 116 = .ok (.iconst 1, 1) := dk_4 (dk_at dksX10_layLeaf_4 22 rfl rfl)
theorem dX10_layLeaf_117 : decode cX10_layLeaf 117 = .ok (.isub, 1) := dk_100 (dk_at dksX10_layLeaf_4 23 rfl rfl)
theorem dX10_layLeaf_118 : decode cX10_layLeaf 118 = .ok (.goto 4, 3) := dk_167 0 4 (dk_at dksX10_layLeaf_5 0 rfl rfl)
theorem dX10_layLeaf_121 : decode cX10_layLeaf 121 = .ok (.iconst 1, 1) := dk_4 (dk_at dksX10_layLeaf_5 3 rfl rfl)
theorem dX10_layLeaf_122 : decode cX10_layLeaf 122 = .ok (.istore 11, 2) := dk_54 11 (dk_at dksX10_layLeaf_5 4 rfl rfl)
theorem dX10_layLeaf_124 : decode cX10_layLeaf 124 = .ok (.iconst 0, 1) := dk_3 (dk_at dksX10_layLeaf_5 6 rfl rfl)
theorem dX10_layLeaf_125 : decode cX10_layLeaf 125 = .ok (.istore 12, 2) := dk_54 12 (dk_at dksX10_layLeaf_5 7 rfl rfl)
theorem dX10_layLeaf_127 : decode cX10_layLeaf 127 = .ok (.iload 12, 2) := dk_21 12 (dk_at dksX10_layLeaf_5 9 rfl rfl)
theorem dX10_layLeaf_129 : decode cX10_layLeaf 129 = .ok (.iload 4, 2) := dk_21 4 (dk_at dksX10_layLeaf_5 11 rfl rfl)
theorem dX10_layLeaf_131 : decode cX10_layLeaf 131 = .ok (.if_icmp .ge 87, 3) := dk_162 0 87 (dk_at dksX10_layLeaf_5 13 rfl rfl)
theorem dX10_layLeaf_134 : decode cX10_layLeaf 134 = .ok (.iconst 1, 1) := dk_4 (dk_at dksX10_layLeaf_5 16 rfl rfl)
theorem dX10_layLeaf_135 : decode cX10_layLeaf 135 = .ok (.istore 13, 2) := dk_54 13 (dk_at dksX10_layLeaf_5 17 rfl rfl)
theorem dX10_layLeaf_137 : decode cX10_layLeaf 137 = .ok (.iload 13, 2) := dk_21 13 (dk_at dksX10_layLeaf_5 19 rfl rfl)
theorem dX10_layLeaf_139 : decode cX10_layLeaf 139 = .ok (.iload 11, 2) := dk_21 11 (dk_at dksX10_layLeaf_5 21 rfl rfl)
theorem dX10_layLeaf_141 : decode cX10_layLeaf 141 = .ok (.if_icmp .gt 71, 3) := dk_163 0 71 (dk_at dksX10_layLeaf_6 0 rfl rfl)
theorem dX10_layLeaf_144 : decode cX10_layLeaf 144 = .ok (.iload 13, 2) := dk_21 13 (dk_at dksX10_layLeaf_6 3 rfl rfl)
theorem dX10_layLeaf_146 : decode cX10_layLeaf 146 = .ok (.iload 12, 2) := dk_21 12 (dk_at dksX10_layLeaf_6 5 rfl rfl)
theorem dX10_layLeaf_148 : decode cX10_layLeaf 148 = .ok (.if_icmp .eq 12, 3) := dk_159 0 12 (dk_at dksX10_layLeaf_6 7 rfl rfl)
theorem dX10_layLeaf_151 : decode cX10_layLeaf 151 = .ok (.iload 13, 2) := dk_21 13 (dk_at dksX10_layLeaf_6 10 rfl rfl)
theorem dX10_layLeaf_153 : decode cX10_layLeaf 153 = .ok (.iload 12, 2) := dk_21 12 (dk_at dksX10_layLeaf_6 12 rfl rfl)
theorem dX10_layLeaf_155 : decode cX10_layLeaf 155 = .ok (.iconst 1, 1) := dk_4 (dk_at dksX10_layLeaf_6 14 rfl rfl)
theorem dX10_layLeaf_156 : decode cX10_layLeaf 156 = .ok (.iadd, 1) := dk_96 (dk_at dksX10_layLeaf_6 15 rfl rfl)
theorem dX10_layLeaf_157 : decode cX10_layLeaf 157 = .ok (.if_icmp .ne 49, 3) := dk_160 0 49 (dk_at dksX10_layLeaf_6 16 rfl rfl)
theorem dX10_layLeaf_160 : decode cX10_layLeaf 160 = .ok (.aload_n 0, 1) := dk_42 (dk_at dksX10_layLeaf_6 19 rfl rfl)
theorem dX10_layLeaf_161 : decode cX10_layLeaf 161 = .ok (.iload 9, 2) := dk_21 9 (dk_at dksX10_layLeaf_6 20 rfl rfl)
theorem dX10_layLeaf_163 : decode cX10_layLeaf 163 = .ok (.iload 5, 2) := dk_21 5 (dk_at dksX10_layLeaf_6 22 rfl rfl)
theorem dX10_layLeaf_165 : decode cX10_layLeaf 165 = .ok (.ifCond .ne 11, 3) := dk_154 0 11 (dk_at dksX10_layLeaf_7 0 rfl rfl)
theorem dX10_layLeaf_168 : decode cX10_layLeaf 168 = .ok (.iload 6, 2) := dk_21 6 (dk_at dksX10_layLeaf_7 3 rfl rfl)
theorem dX10_layLeaf_170 : decode cX10_layLeaf 170 = .ok (.iload 12, 2) := dk_21 12 (dk_at dksX10_layLeaf_7 5 rfl rfl)
theorem dX10_layLeaf_172 : decode cX10_layLeaf 172 = .ok (.imul, 1) := dk_104 (dk_at dksX10_layLeaf_7 7 rfl rfl)
theorem dX10_layLeaf_173 : decode cX10_layLeaf 173 = .ok (.goto 8, 3) := dk_167 0 8 (dk_at dksX10_layLeaf_7 8 rfl rfl)
theorem dX10_layLeaf_176 : decode cX10_layLeaf 176 = .ok (.iload 7, 2) := dk_21 7 (dk_at dksX10_layLeaf_7 11 rfl rfl)
theorem dX10_layLeaf_178 : decode cX10_layLeaf 178 = .ok (.iload 13, 2) := dk_21 13 (dk_at dksX10_layLeaf_7 13 rfl rfl)
theorem dX10_layLeaf_180 : decode cX10_layLeaf 180 = .ok (.imul, 1) := dk_104 (dk_at dksX10_layLeaf_7 15 rfl rfl)
theorem dX10_layLeaf_181 : decode cX10_layLeaf 181 = .ok (.iadd, 1) := dk_96 (dk_at dksX10_layLeaf_7 16 rfl rfl)
theorem dX10_layLeaf_182 : decode cX10_layLeaf 182 = .ok (.iload 10, 2) := dk_21 10 (dk_at dksX10_layLeaf_7 17 rfl rfl)
theorem dX10_layLeaf_184 : decode cX10_layLeaf 184 = .ok (.iload 5, 2) := dk_21 5 (dk_at dksX10_layLeaf_7 19 rfl rfl)
theorem dX10_layLeaf_186 : decode cX10_layLeaf 186 = .ok (.ifCond .ne 11, 3) := dk_154 0 11 (dk_at dksX10_layLeaf_7 21 rfl rfl)
theorem dX10_layLeaf_189 : decode cX10_layLeaf 189 = .ok (.iload 7, 2) := dk_21 7 (dk_at dksX10_layLeaf_8 0 rfl rfl)
theorem dX10_layLeaf_191 : decode cX10_layLeaf 191 = .ok (.iload 13, 2) := dk_21 13 (dk_at dksX10_layLeaf_8 2 rfl rfl)
theorem dX10_layLeaf_193 : decode cX10_layLeaf 193 = .ok (.imul, 1) := dk_104 (dk_at dksX10_layLeaf_8 4 rfl rfl)
theorem dX10_layLeaf_194 : decode cX10_layLeaf 194 = .ok (.goto 8, 3) := dk_167 0 8 (dk_at dksX10_layLeaf_8 5 rfl rfl)
theorem dX10_layLeaf_197 : decode cX10_layLeaf 197 = .ok (.iload 6, 2) := dk_21 6 (dk_at dksX10_layLeaf_8 8 rfl rfl)
theorem dX10_layLeaf_199 : decode cX10_layLeaf 199 = .ok (.iload 12, 2) := dk_21 12 (dk_at dksX10_layLeaf_8 10 rfl rfl)
theorem dX10_layLeaf_201 : decode cX10_layLeaf 201 = .ok (.imul, 1) := dk_104 (dk_at dksX10_layLeaf_8 12 rfl rfl)
theorem dX10_layLeaf_202 : decode cX10_layLeaf 202 = .ok (.iadd, 1) := dk_96 (dk_at dksX10_layLeaf_8 13 rfl rfl)
theorem dX10_layLeaf_203 : decode cX10_layLeaf 203 = .ok (.invokevirtual 274, 3) := dk_182 1 18 (dk_at dksX10_layLeaf_8 14 rfl rfl)
theorem dX10_layLeaf_206 : decode cX10_layLeaf 206 = .ok (.iinc 13 1, 3) := dk_132 13 1 (dk_at dksX10_layLeaf_8 17 rfl rfl)
theorem dX10_layLeaf_209 : decode cX10_layLeaf 209 = .ok (.goto (-72), 3) := dk_167 255 184 (dk_at dksX10_layLeaf_8 20 rfl rfl)
theorem dX10_layLeaf_212 : decode cX10_layLeaf 212 = .ok (.iinc 12 1, 3) := dk_132 12 1 (dk_at dksX10_layLeaf_9 0 rfl rfl)
theorem dX10_layLeaf_215 : decode cX10_layLeaf 215 = .ok (.goto (-88), 3) := dk_167 255 168 (dk_at dksX10_layLeaf_9 3 rfl rfl)
theorem dX10_layLeaf_218 : decode cX10_layLeaf 218 = .ok (.return_, 1) := dk_177 (dk_at dksX10_layLeaf_9 6 rfl rfl)
theorem dX10_layLeaf_219 : decode cX10_layLeaf 219 = .ok (.iconst 0, 1) := dk_3 (dk_at dksX10_layLeaf_9 7 rfl rfl)
theorem dX10_layLeaf_220 : decode cX10_layLeaf 220 = .ok (.istore 11, 2) := dk_54 11 (dk_at dksX10_layLeaf_9 8 rfl rfl)
theorem dX10_layLeaf_222 : decode cX10_layLeaf 222 = .ok (.iload 11, 2) := dk_21 11 (dk_at dksX10_layLeaf_9 10 rfl rfl)
theorem dX10_layLeaf_224 : decode cX10_layLeaf 224 = .ok (.iload 4, 2) := dk_21 4 (dk_at dksX10_layLeaf_9 12 rfl rfl)
theorem dX10_layLeaf_226 : decode cX10_layLeaf 226 = .ok (.if_icmp .ge 92, 3) := dk_162 0 92 (dk_at dksX10_layLeaf_9 14 rfl rfl)
theorem dX10_layLeaf_229 : decode cX10_layLeaf 229 = .ok (.iload_n 3, 1) := dk_29 (dk_at dksX10_layLeaf_9 17 rfl rfl)
theorem dX10_layLeaf_230 : decode cX10_layLeaf 230 = .ok (.ifCond .ne 11, 3) := dk_154 0 11 (dk_at dksX10_layLeaf_9 18 rfl rfl)
theorem dX10_layLeaf_233 : decode cX10_layLeaf 233 = .ok (.iload 6, 2) := dk_21 6 (dk_at dksX10_layLeaf_9 21 rfl rfl)
theorem dX10_layLeaf_235 : decode cX10_layLeaf 235 = .ok (.iload 11, 2) := dk_21 11 (dk_at dksX10_layLeaf_10 0 rfl rfl)
theorem dX10_layLeaf_237 : decode cX10_layLeaf 237 = .ok (.imul, 1) := dk_104 (dk_at dksX10_layLeaf_10 2 rfl rfl)
theorem dX10_layLeaf_238 : decode cX10_layLeaf 238 = .ok (.goto 10, 3) := dk_167 0 10 (dk_at dksX10_layLeaf_10 3 rfl rfl)
theorem dX10_layLeaf_241 : decode cX10_layLeaf 241 = .ok (.iload 7, 2) := dk_21 7 (dk_at dksX10_layLeaf_10 6 rfl rfl)
theorem dX10_layLeaf_243 : decode cX10_layLeaf 243 = .ok (.iload 11, 2) := dk_21 11 (dk_at dksX10_layLeaf_10 8 rfl rfl)
theorem dX10_layLeaf_245 : decode cX10_layLeaf 245 = .ok (.iconst 1, 1) := dk_4 (dk_at dksX10_layLeaf_10 10 rfl rfl)
theorem dX10_layLeaf_246 : decode cX10_layLeaf 246 = .ok (.iadd, 1) := dk_96 (dk_at dksX10_layLeaf_10 11 rfl rfl)
theorem dX10_layLeaf_247 : decode cX10_layLeaf 247 = .ok (.imul, 1) := dk_104 (dk_at dksX10_layLeaf_10 12 rfl rfl)
theorem dX10_layLeaf_248 : decode cX10_layLeaf 248 = .ok (.istore 12, 2) := dk_54 12 (dk_at dksX10_layLeaf_10 13 rfl rfl)
theorem dX10_layLeaf_250 : decode cX10_layLeaf 250 = .ok (.iload_n 3, 1) := dk_29 (dk_at dksX10_layLeaf_10 15 rfl rfl)
theorem dX10_layLeaf_251 : decode cX10_layLeaf 251 = .ok (.ifCond .ne 16, 3) := dk_154 0 16 (dk_at dksX10_layLeaf_10 16 rfl rfl)
theorem dX10_layLeaf_254 : decode cX10_layLeaf 254 = .ok (.iload 5, 2) := dk_21 5 (dk_at dksX10_layLeaf_10 19 rfl rfl)
theorem dX10_layLeaf_256 : decode cX10_layLeaf 256 = .ok (.ifCond .ne 7, 3) := dk_154 0 7 (dk_at dksX10_layLeaf_10 21 rfl rfl)
theorem dX10_layLeaf_259 : decode cX10_layLeaf 259 = .ok (.iconst 1, 1) := dk_4 (dk_at dksX10_layLeaf_11 0 rfl rfl)
theorem dX10_layLeaf_260 : decode cX10_layLeaf 260 = .ok (.goto 18, 3) := dk_167 0 18 (dk_at dksX10_layLeaf_11 1 rfl rfl)
theorem dX10_layLeaf_263 : decode cX10_layLeaf 263 = .ok (.iconst 0, 1) := dk_3 (dk_at dksX10_layLeaf_11 4 rfl rfl)
theorem dX10_layLeaf_264 : decode cX10_layLeaf 264 = .ok (.goto 14, 3) := dk_167 0 14 (dk_at dksX10_layLeaf_11 5 rfl rfl)
theorem dX10_layLeaf_267 : decode cX10_layLeaf 267 = .ok (.iload 5, 2) := dk_21 5 (dk_at dksX10_layLeaf_11 8 rfl rfl)
theorem dX10_layLeaf_269 : decode cX10_layLeaf 269 = .ok (.iconst 1, 1) := dk_4 (dk_at dksX10_layLeaf_11 10 rfl rfl)
theorem dX10_layLeaf_270 : decode cX10_layLeaf 270 = .ok (.if_icmp .ne 7, 3) := dk_160 0 7 (dk_at dksX10_layLeaf_11 11 rfl rfl)
theorem dX10_layLeaf_273 : decode cX10_layLeaf 273 = .ok (.iconst 1, 1) := dk_4 (dk_at dksX10_layLeaf_11 14 rfl rfl)
theorem dX10_layLeaf_274 : decode cX10_layLeaf 274 = .ok (.goto 4, 3) := dk_167 0 4 (dk_at dksX10_layLeaf_11 15 rfl rfl)
theorem dX10_layLeaf_277 : decode cX10_layLeaf 277 = .ok (.iconst 0, 1) := dk_3 (dk_at dksX10_layLeaf_11 18 rfl rfl)
theorem dX10_layLeaf_278 : decode cX10_layLeaf 278 = .ok (.istore 13, 2) := dk_54 13 (dk_at dksX10_layLeaf_11 19 rfl rfl)
theorem dX10_layLeaf_280 : decode cX10_layLeaf 280 = .ok (.aload_n 0, 1) := dk_42 (dk_at dksX10_layLeaf_11 21 rfl rfl)
theorem dX10_layLeaf_281 : decode cX10_layLeaf 281 = .ok (.iload 9, 2) := dk_21 9 (dk_at dksX10_layLeaf_11 22 rfl rfl)
theorem dX10_layLeaf_283 : decode cX10_layLeaf 283 = .ok (.iload 13, 2) := dk_21 13 (dk_at dksX10_layLeaf_12 0 rfl rfl)
theorem dX10_layLeaf_285 : decode cX10_layLeaf 285 = .ok (.ifCond .eq 8, 3) := dk_153 0 8 (dk_at dksX10_layLeaf_12 2 rfl rfl)
theorem dX10_layLeaf_288 : decode cX10_layLeaf 288 = .ok (.iload 12, 2) := dk_21 12 (dk_at dksX10_layLeaf_12 5 rfl rfl)
theorem dX10_layLeaf_290 : decode cX10_layLeaf 290 = .ok (.goto 4, 3) := dk_167 0 4 (dk_at dksX10_layLeaf_12 7 rfl rfl)
theorem dX10_layLeaf_293 : decode cX10_layLeaf 293 = .ok (.iconst 0, 1) := dk_3 (dk_at dksX10_layLeaf_12 10 rfl rfl)
theorem dX10_layLeaf_294 : decode cX10_layLeaf 294 = .ok (.iadd, 1) := dk_96 (dk_at dksX10_layLeaf_12 11 rfl rfl)
theorem dX10_layLeaf_295 : decode cX10_layLeaf 295 = .ok (.iload 10, 2) := dk_21 10 (dk_at dksX10_layLeaf_12 12 rfl rfl)
theorem dX10_layLeaf_297 : decode cX10_layLeaf 297 = .ok (.iload 13, 2) := dk_21 13 (dk_at dksX10_layLeaf_12 14 rfl rfl)
theorem dX10_layLeaf_299 : decode cX10_layLeaf 299 = .ok (.ifCond .eq 7, 3) := dk_153 0 7 (dk_at dksX10_layLeaf_12 16 rfl rfl)
theorem dX10_layLeaf_302 : decode cX10_layLeaf 302 = .ok (.iconst 0, 1) := dk_3 (dk_at dksX10_layLeaf_12 19 rfl rfl)
theorem dX10_layLeaf_303 : decode cX10_layLeaf 303 = .ok (.goto 5, 3) := dk_167 0 5 (dk_at dksX10_layLeaf_12 20 rfl rfl)
theorem dX10_layLeaf_306 : decode cX10_layLeaf 306 = .ok (.iload 12, 2) := dk_21 12 (dk_at dksX10_layLeaf_13 0 rfl rfl)
theorem dX10_layLeaf_308 : decode cX10_layLeaf 308 = .ok (.iadd, 1) := dk_96 (dk_at dksX10_layLeaf_13 2 rfl rfl)
theorem dX10_layLeaf_309 : decode cX10_layLeaf 309 = .ok (.invokevirtual 274, 3) := dk_182 1 18 (dk_at dksX10_layLeaf_13 3 rfl rfl)
theorem dX10_layLeaf_312 : decode cX10_layLeaf 312 = .ok (.iinc 11 1, 3) := dk_132 11 1 (dk_at dksX10_layLeaf_13 6 rfl rfl)
theorem dX10_layLeaf_315 : decode cX10_layLeaf 315 = .ok (.goto (-93), 3) := dk_167 255 163 (dk_at dksX10_layLeaf_13 9 rfl rfl)
theorem dX10_layLeaf_318 : decode cX10_layLeaf 318 = .ok (.return_, 1) := dk_177 (dk_at dksX10_layLeaf_13 12 rfl rfl)
theorem dn_X10_layLeaf : yX10_layLeaf.cls ≠ "java/lang/invoke/MethodHandle" ∧ yX10_layLeaf.cls ≠ "java/lang/invoke/VarHandle" ∧ (parseMethodDescriptor yX10_layLeaf.desc).map (fun d => d.parameters.length) = some 3 := by decide +kernel
noncomputable def M_X10_layLeaf (p1 : Int32) (p2 : Int32) (p3 : Int32) : TM Unit := TM.bind (M_X10_of p1 3) (fun v1 => TM.bind (M_X10_of p1 2) (fun v2 => TM.bind ((if (p2 - p2 / 2 * 2) = 0 then TM.pure 1 else TM.pure (-1) : TM (Int32))) (fun u3 => TM.bind ((if 2 ≤ p2 then TM.pure 1 else TM.pure (-1) : TM (Int32))) (fun u4 => TM.bind ((if (p2 - p2 / 2 * 2) = 0 then TM.pure 0 else TM.pure (v1 - 1) : TM (Int32))) (fun u5 => TM.bind (M_X10_of p1 0) (fun v6 => TM.bind ((if v2 = 0 then TM.pure u5 else TM.pure 0 : TM (Int32))) (fun u7 => TM.lv (v6 + u7) (fun v8 => TM.bind (M_X10_of p1 1) (fun v9 => TM.bind ((if v2 = 1 then TM.pure u5 else TM.pure 0 : TM (Int32))) (fun u10 => TM.lv (v9 + u10) (fun v11 => TM.bind (sI 26 0) (fun _ => if p3 = 1 then TM.bind ((if v1 ≤ 1 then TM.pure 1 else TM.pure (v1 - 1) : TM (Int32))) (fun u22 => TM.bind (TM.loop (S := Int32) (E := Unit) (fun s23 => if v1 ≤ s23 then TM.pure (Sum.inr ()) else TM.bind (TM.loop (S := Int32) (E := Unit) (fun s27 => if u22 < s27 then TM.pure (Sum.inr ()) else TM.bind ((if s27 = s23 then TM.bind ((if v2 = 0 then TM.pure (u3 * s23) else TM.pure (u4 * s27) : TM (Int32))) (fun u33 => TM.bind ((if v2 = 0 then TM.pure (u4 * s27) else TM.pure (u3 * s23) : TM (Int32))) (fun u34 => TM.bind (M_X10_put (v8 + u33) (v11 + u34)) (fun v35 => TM.pure ()))) else if s27 = (s23 + 1) then TM.bind ((if v2 = 0 then TM.pure (u3 * s23) else TM.pure (u4 * s27) : TM (Int32))) (fun u36 => TM.bind ((if v2 = 0 then TM.pure (u4 * s27) else TM.pure (u3 * s23) : TM (Int32))) (fun u37 => TM.bind (M_X10_put (v8 + u36) (v11 + u37)) (fun v38 => TM.pure ()))) else TM.pure () : TM (Unit))) (fun u31 => TM.lv (s27 + 1) (fun v32 => TM.pure (Sum.inl v32)))) 1) (fun e30 => TM.lv (s23 + 1) (fun v39 => TM.pure (Sum.inl v39)))) 0) (fun e26 => TM.pure ())) else TM.bind (TM.loop (S := Int32) (E := Unit) (fun s12 => if v1 ≤ s12 then TM.pure (Sum.inr ()) else TM.bind ((if p3 = 0 then TM.pure (u3 * s12) else TM.pure (u4 * (s12 + 1)) : TM (Int32))) (fun u16 => TM.bind ((if p3 = 0 then if v2 = 0 then TM.pure true else TM.pure false else if v2 = 1 then TM.pure true else TM.pure false : TM (Bool))) (fun u17 => TM.bind ((cond u17 (TM.pure u16) (TM.pure 0) : TM (Int32))) (fun u18 => TM.bind ((cond u17 (TM.pure 0) (TM.pure u16) : TM (Int32))) (fun u19 => TM.bind (M_X10_put (v8 + u18) (v11 + u19)) (fun v20 => TM.lv (s12 + 1) (fun v21 => TM.pure (Sum.inl v21)))))))) 0) (fun e15 => TM.pure ())))))))))))))
set_option maxHeartbeats 4000000 in
theorem ct_X10_layLeaf (G : gG) (am : Nat) (p1 : Int32) (p2 : Int32) (p3 : Int32) : gCtM G am yX10_layLeaf cX10_layLeaf 14 none 1 22 [.ref am, .int p1, .int p2, .int p3] (M_X10_layLeaf p1 p2 p3) (fun _ : Unit => none) := by
  refine gCtM.of (by decide) (Nat.le_of_ble_eq_true rfl) (fun K hn ms ms' r hG X hK hd ho => ?_)
  subst hG
  have X : gX K cX10_layLeaf 14 "BitingDoorsModel" "layLeaf" none 1 22 := X
  show V K 14 (mkM am hn ms) 0 [(0, .ref am), (1, .int p1), (2, .int p2), (3, .int p3)] []
  unfold M_X10_layLeaf at hd
  refine v_aload_n X dX10_layLeaf_0 0 0 rfl rfl ?_
  refine v_iload_n X dX10_layLeaf_1 1 1 rfl rfl ?_
  refine v_iconst (v := 3) X dX10_layLeaf_2 (by decide) ?_
  refine t_callV X hK hd (ct_X10_of _ am p1 3) (lw_V q1994 q1996 qs59 q120 q1997) ⟨rfl, dn_X10_of⟩ rfl ⟨by decide, by decide⟩ rfl (Nat.le_of_ble_eq_true rfl) dX10_layLeaf_3 (fun v1 ms hd => ?_)
  show V K 14 (mkM am hn ms) 6 [(0, .ref am), (1, .int p1), (2, .int p2), (3, .int p3)] [.int v1]
  refine v_istore (lv2 := [(4, .int v1), (0, .ref am), (1, .int p1), (2, .int p2), (3, .int p3)]) X dX10_layLeaf_6 (by decide) rfl ?_
  refine v_aload_n X dX10_layLeaf_8 1 0 rfl rfl ?_
  refine v_iload_n X dX10_layLeaf_9 2 1 rfl rfl ?_
  refine v_iconst (v := 2) X dX10_layLeaf_10 (by decide) ?_
  refine t_callV X hK hd (ct_X10_of _ am p1 2) (lw_V q1994 q1996 qs59 q120 q1997) ⟨rfl, dn_X10_of⟩ rfl ⟨by decide, by decide⟩ rfl (Nat.le_of_ble_eq_true rfl) dX10_layLeaf_11 (fun v2 ms hd => ?_)
  show V K 14 (mkM am hn ms) 14 [(4, .int v1), (0, .ref am), (1, .int p1), (2, .int p2), (3, .int p3)] [.int v2]
  refine v_istore (lv2 := [(5, .int v2), (4, .int v1), (0, .ref am), (1, .int p1), (2, .int p2), (3, .int p3)]) X dX10_layLeaf_14 (by decide) rfl ?_
  refine v_iload_n X dX10_layLeaf_16 4 2 rfl rfl ?_
  refine v_iconst (v := 2) X dX10_layLeaf_17 (by decide) ?_
  refine v_irem X dX10_layLeaf_18 (by decide) ?_
  obtain ⟨u3, m1, hd, hd2⟩ := TM.bind_some hd
  have KJ : V K 14 (mkM am hn m1) 27 [(0, .ref am), (1, .int p1), (2, .int p2), (3, .int p3), (4, .int v1), (5, .int v2)] [.int u3] := by
    clear hd
    have hd := hd2
    refine v_istore (lv2 := [(6, .int u3), (0, .ref am), (1, .int p1), (2, .int p2), (3, .int p3), (4, .int v1), (5, .int v2)]) X dX10_layLeaf_27 (by decide) rfl ?_
    refine v_iload_n X dX10_layLeaf_29 3 2 rfl rfl ?_
    refine v_iconst (v := 2) X dX10_layLeaf_30 (by decide) ?_
    obtain ⟨u4, m1, hd, hd2⟩ := TM.bind_some hd
    have KJ : V K 14 (mkM am hn m1) 39 [(0, .ref am), (1, .int p1), (2, .int p2), (3, .int p3), (4, .int v1), (5, .int v2), (6, .int u3)] [.int u4] := by
      clear hd
      have hd := hd2
      refine v_istore (lv2 := [(7, .int u4), (0, .ref am), (1, .int p1), (2, .int p2), (3, .int p3), (4, .int v1), (5, .int v2), (6, .int u3)]) X dX10_layLeaf_39 (by decide) rfl ?_
      refine v_iload_n X dX10_layLeaf_41 3 2 rfl rfl ?_
      refine v_iconst (v := 2) X dX10_layLeaf_42 (by decide) ?_
      refine v_irem X dX10_layLeaf_43 (by decide) ?_
      obtain ⟨u5, m1, hd, hd2⟩ := TM.bind_some hd
      have KJ : V K 14 (mkM am hn m1) 55 [(0, .ref am), (1, .int p1), (3, .int p3), (4, .int v1), (5, .int v2), (6, .int u3), (7, .int u4)] [.int u5] := by
        clear hd
        have hd := hd2
        refine v_istore (lv2 := [(8, .int u5), (0, .ref am), (1, .int p1), (3, .int p3), (4, .int v1), (5, .int v2), (6, .int u3), (7, .int u4)]) X dX10_layLeaf_55 (by decide) rfl ?_
        refine v_aload_n X dX10_layLeaf_57 1 0 rfl rfl ?_
        refine v_iload_n X dX10_layLeaf_58 2 1 rfl rfl ?_
        refine v_iconst (v := 0) X dX10_layLeaf_59 (by decide) ?_
        refine t_callV X hK hd (ct_X10_of _ am p1 0) (lw_V q1994 q1996 qs59 q120 q1997) ⟨rfl, dn_X10_of⟩ rfl ⟨by decide, by decide⟩ rfl (Nat.le_of_ble_eq_true rfl) dX10_layLeaf_60 (fun v6 ms hd => ?_)
        show V K 14 (mkM am hn ms) 63 [(8, .int u5), (0, .ref am), (1, .int p1), (3, .int p3), (4, .int v1), (5, .int v2), (6, .int u3), (7, .int u4)] [.int v6]
        refine v_iload X dX10_layLeaf_63 5 rfl ?_
        obtain ⟨u7, m1, hd, hd2⟩ := TM.bind_some hd
        have KJ : V K 14 (mkM am hn m1) 74 [(0, .ref am), (1, .int p1), (3, .int p3), (4, .int v1), (5, .int v2), (6, .int u3), (7, .int u4), (8, .int u5)] [.int u7, .int v6] := by
          clear hd
          have hd := hd2
          refine v_iadd X dX10_layLeaf_74 ?_
          refine t_lvI hd (fun v8 hd => ?_)
          refine v_istore (lv2 := [(9, .int v8), (0, .ref am), (1, .int p1), (3, .int p3), (4, .int v1), (5, .int v2), (6, .int u3), (7, .int u4), (8, .int u5)]) X dX10_layLeaf_75 (by decide) rfl ?_
          refine v_aload_n X dX10_layLeaf_77 1 0 rfl rfl ?_
          refine v_iload_n X dX10_layLeaf_78 2 1 rfl rfl ?_
          refine v_iconst (v := 1) X dX10_layLeaf_79 (by decide) ?_
          refine t_callV X hK hd (ct_X10_of _ am p1 1) (lw_V q1994 q1996 qs59 q120 q1997) ⟨rfl, dn_X10_of⟩ rfl ⟨by decide, by decide⟩ rfl (Nat.le_of_ble_eq_true rfl) dX10_layLeaf_80 (fun v9 ms hd => ?_)
          show V K 14 (mkM am hn ms) 83 [(9, .int v8), (0, .ref am), (1, .int p1), (3, .int p3), (4, .int v1), (5, .int v2), (6, .int u3), (7, .int u4), (8, .int u5)] [.int v9]
          refine v_iload X dX10_layLeaf_83 5 rfl ?_
          refine v_iconst (v := 1) X dX10_layLeaf_85 (by decide) ?_
          obtain ⟨u10, m1, hd, hd2⟩ := TM.bind_some hd
          have KJ : V K 14 (mkM am hn m1) 95 [(0, .ref am), (3, .int p3), (4, .int v1), (5, .int v2), (6, .int u3), (7, .int u4), (9, .int v8)] [.int u10, .int v9] := by
            clear hd
            have hd := hd2
            refine v_iadd X dX10_layLeaf_95 ?_
            refine t_lvI hd (fun v11 hd => ?_)
            refine v_istore (lv2 := [(10, .int v11), (0, .ref am), (3, .int p3), (4, .int v1), (5, .int v2), (6, .int u3), (7, .int u4), (9, .int v8)]) X dX10_layLeaf_96 (by decide) rfl ?_
            refine v_aload_n X dX10_layLeaf_98 1 0 rfl rfl ?_
            refine v_iconst (v := 0) X dX10_layLeaf_99 (by decide) ?_
            refine t_putI X hd rfl fp_X10_271 dX10_layLeaf_100 (fun ms hd => ?_)
            refine v_iload_n X dX10_layLeaf_103 2 3 rfl rfl ?_
            refine v_iconst (v := 1) X dX10_layLeaf_104 (by decide) ?_
            refine v_icmp_ne (tgt := 219) X dX10_layLeaf_105 (by decide) (fun q => ?_) (fun q => ?_)
            · have hd := Tite_f q hd
              refine v_iconst (v := 0) X dX10_layLeaf_219 (by decide) ?_
              refine v_istore (lv2 := [(11, .int 0), (10, .int v11), (0, .ref am), (3, .int p3), (4, .int v1), (5, .int v2), (6, .int u3), (7, .int u4), (9, .int v8)]) X dX10_layLeaf_220 (by decide) rfl ?_
              obtain ⟨e15, m1, hd, hd2⟩ := TM.bind_some hd
              have KX : V K 14 (mkM am hn m1) 318 [] [] := by
                clear hd
                have hd := hd2
                exact t_vret X hK hd ho dX10_layLeaf_318
              clear hd2
              refine v_loc [2, 3, 4, 5, 6, 7, 8, 1, 0] rfl ?_
              refine Tloop_ind hd (fun (s12 : Int32) m => V K 14 (mkM am hn m) 222 [(0, .ref am), (3, .int p3), (4, .int v1), (5, .int v2), (6, .int u3), (7, .int u4), (9, .int v8), (10, .int v11), (11, .int s12)] []) (fun s12 ms x m2 hd ih13 ho14 => ?_)
              refine v_iload X dX10_layLeaf_222 8 rfl ?_
              refine v_iload X dX10_layLeaf_224 2 rfl ?_
              refine v_icmp_ge (tgt := 318) X dX10_layLeaf_226 (by decide) (fun q => ?_) (fun q => ?_)
              · have hd := Tite_t q hd
                exact v_loc [] rfl (t_at (P := fun (e15 : Unit) m => V K 14 (mkM am hn m) 318 [] []) (Tlp_out hd ho14) KX)
              · have hd := Tite_f q hd
                refine v_iload_n X dX10_layLeaf_229 1 3 rfl rfl ?_
                obtain ⟨u16, m1, hd, hd2⟩ := TM.bind_some hd
                have KJ : V K 14 (mkM am hn m1) 248 [(0, .ref am), (3, .int p3), (4, .int v1), (5, .int v2), (6, .int u3), (7, .int u4), (9, .int v8), (10, .int v11), (11, .int s12)] [.int u16] := by
                  clear hd
                  have hd := hd2
                  refine v_istore (lv2 := [(12, .int u16), (0, .ref am), (3, .int p3), (4, .int v1), (5, .int v2), (6, .int u3), (7, .int u4), (9, .int v8), (10, .int v11), (11, .int s12)]) X dX10_layLeaf_248 (by decide) rfl ?_
                  refine v_iload_n X dX10_layLeaf_250 2 3 rfl rfl ?_
                  obtain ⟨u17, m1, hd, hd2⟩ := TM.bind_some hd
                  have KJ : V K 14 (mkM am hn m1) 278 [(0, .ref am), (3, .int p3), (4, .int v1), (5, .int v2), (6, .int u3), (7, .int u4), (9, .int v8), (10, .int v11), (11, .int s12), (12, .int u16)] [.int (b2i u17)] := by
                    clear hd
                    have hd := hd2
                    refine v_istore (lv2 := [(13, .int (b2i u17)), (0, .ref am), (3, .int p3), (4, .int v1), (5, .int v2), (6, .int u3), (7, .int u4), (9, .int v8), (10, .int v11), (11, .int s12), (12, .int u16)]) X dX10_layLeaf_278 (by decide) rfl ?_
                    refine v_aload_n X dX10_layLeaf_280 1 0 rfl rfl ?_
                    refine v_iload X dX10_layLeaf_281 7 rfl ?_
                    refine v_iload X dX10_layLeaf_283 0 rfl ?_
                    obtain ⟨u18, m1, hd, hd2⟩ := TM.bind_some hd
                    have KJ : V K 14 (mkM am hn m1) 294 [(0, .ref am), (3, .int p3), (4, .int v1), (5, .int v2), (6, .int u3), (7, .int u4), (9, .int v8), (10, .int v11), (11, .int s12), (12, .int u16), (13, .int (b2i u17))] [.int u18, .int v8, .ref am] := by
                      clear hd
                      have hd := hd2
                      refine v_iadd X dX10_layLeaf_294 ?_
                      refine v_iload X dX10_layLeaf_295 7 rfl ?_
                      refine v_iload X dX10_layLeaf_297 10 rfl ?_
                      obtain ⟨u19, m1, hd, hd2⟩ := TM.bind_some hd
                      have KJ : V K 14 (mkM am hn m1) 308 [(0, .ref am), (3, .int p3), (4, .int v1), (5, .int v2), (6, .int u3), (7, .int u4), (9, .int v8), (10, .int v11), (11, .int s12)] [.int u19, .int v11, .int (v8 + u18), .ref am] := by
                        clear hd
                        have hd := hd2
                        refine v_iadd X dX10_layLeaf_308 ?_
                        refine t_callV X hK hd (ct_X10_put _ am (v8 + u18) (v11 + u19)) (lw_V q2006 q2008 qs61 q120 q2009) ⟨rfl, dn_X10_put⟩ rfl ⟨by decide, by decide⟩ rfl (Nat.le_of_ble_eq_true rfl) dX10_layLeaf_309 (fun v20 ms hd => ?_)
                        show V K 14 (mkM am hn ms) 312 [(0, .ref am), (3, .int p3), (4, .int v1), (5, .int v2), (6, .int u3), (7, .int u4), (9, .int v8), (10, .int v11), (11, .int s12)] []
                        refine t_iincL (lv2 := fun v21 => [(11, .int v21), (0, .ref am), (3, .int p3), (4, .int v1), (5, .int v2), (6, .int u3), (7, .int u4), (9, .int v8), (10, .int v11)]) X hd dX10_layLeaf_312 8 rfl (by decide : Int32.ofInt 1 = 1) (by decide) (fun v21 => rfl) (fun v21 hd => ?_)
                        refine v_goto (tgt := 222) X dX10_layLeaf_315 (by decide) ?_
                        exact v_loc [1, 2, 3, 4, 5, 6, 7, 8, 0] rfl (Tlp_in (P := fun (s12 : Int32) m => V K 14 (mkM am hn m) 222 [(0, .ref am), (3, .int p3), (4, .int v1), (5, .int v2), (6, .int u3), (7, .int u4), (9, .int v8), (10, .int v11), (11, .int s12)] []) hd ih13)
                      clear hd2
                      refine v_ifZ_eq (tgt := 306) X dX10_layLeaf_299 (by decide) (fun q => ?_) (fun q => ?_)
                      · have hd := Tcnd_f q hd
                        refine v_iload X dX10_layLeaf_306 9 rfl ?_
                        exact v_loc [0, 1, 2, 3, 4, 5, 6, 7, 8] rfl (t_at (P := fun (u19 : Int32) m => V K 14 (mkM am hn m) 308 [(0, .ref am), (3, .int p3), (4, .int v1), (5, .int v2), (6, .int u3), (7, .int u4), (9, .int v8), (10, .int v11), (11, .int s12)] [.int u19, .int v11, .int (v8 + u18), .ref am]) hd KJ)
                      · have hd := Tcnd_t q hd
                        refine v_iconst (v := 0) X dX10_layLeaf_302 (by decide) ?_
                        refine v_goto (tgt := 308) X dX10_layLeaf_303 (by decide) ?_
                        exact v_loc [0, 1, 2, 3, 4, 5, 6, 7, 8] rfl (t_at (P := fun (u19 : Int32) m => V K 14 (mkM am hn m) 308 [(0, .ref am), (3, .int p3), (4, .int v1), (5, .int v2), (6, .int u3), (7, .int u4), (9, .int v8), (10, .int v11), (11, .int s12)] [.int u19, .int v11, .int (v8 + u18), .ref am]) hd KJ)
                    clear hd2
                    refine v_ifZ_eq (tgt := 293) X dX10_layLeaf_285 (by decide) (fun q => ?_) (fun q => ?_)
                    · have hd := Tcnd_f q hd
                      refine v_iconst (v := 0) X dX10_layLeaf_293 (by decide) ?_
                      exact v_loc [1, 2, 3, 4, 5, 6, 7, 8, 9, 10, 0] rfl (t_at (P := fun (u18 : Int32) m => V K 14 (mkM am hn m) 294 [(0, .ref am), (3, .int p3), (4, .int v1), (5, .int v2), (6, .int u3), (7, .int u4), (9, .int v8), (10, .int v11), (11, .int s12), (12, .int u16), (13, .int (b2i u17))] [.int u18, .int v8, .ref am]) hd KJ)
                    · have hd := Tcnd_t q hd
                      refine v_iload X dX10_layLeaf_288 10 rfl ?_
                      refine v_goto (tgt := 294) X dX10_layLeaf_290 (by decide) ?_
                      exact v_loc [1, 2, 3, 4, 5, 6, 7, 8, 9, 10, 0] rfl (t_at (P := fun (u18 : Int32) m => V K 14 (mkM am hn m) 294 [(0, .ref am), (3, .int p3), (4, .int v1), (5, .int v2), (6, .int u3), (7, .int u4), (9, .int v8), (10, .int v11), (11, .int s12), (12, .int u16), (13, .int (b2i u17))] [.int u18, .int v8, .ref am]) hd KJ)
                  clear hd2
                  refine v_if_ne (tgt := 267) X dX10_layLeaf_251 (by decide) (fun q => ?_) (fun q => ?_)
                  · have hd := Tite_f q hd
                    refine v_iload X dX10_layLeaf_267 4 rfl ?_
                    refine v_iconst (v := 1) X dX10_layLeaf_269 (by decide) ?_
                    refine v_icmp_ne (tgt := 277) X dX10_layLeaf_270 (by decide) (fun q => ?_) (fun q => ?_)
                    · have hd := Tite_f q hd
                      refine v_iconst (v := 0) X dX10_layLeaf_277 (by decide) ?_
                      exact v_loc [1, 2, 3, 4, 5, 6, 7, 8, 9, 0] rfl (t_at (P := fun (u17 : Bool) m => V K 14 (mkM am hn m) 278 [(0, .ref am), (3, .int p3), (4, .int v1), (5, .int v2), (6, .int u3), (7, .int u4), (9, .int v8), (10, .int v11), (11, .int s12), (12, .int u16)] [.int (b2i u17)]) hd KJ)
                    · have hd := Tite_t q hd
                      refine v_iconst (v := 1) X dX10_layLeaf_273 (by decide) ?_
                      refine v_goto (tgt := 278) X dX10_layLeaf_274 (by decide) ?_
                      exact v_loc [1, 2, 3, 4, 5, 6, 7, 8, 9, 0] rfl (t_at (P := fun (u17 : Bool) m => V K 14 (mkM am hn m) 278 [(0, .ref am), (3, .int p3), (4, .int v1), (5, .int v2), (6, .int u3), (7, .int u4), (9, .int v8), (10, .int v11), (11, .int s12), (12, .int u16)] [.int (b2i u17)]) hd KJ)
                  · have hd := Tite_t q hd
                    refine v_iload X dX10_layLeaf_254 4 rfl ?_
                    refine v_if_ne (tgt := 263) X dX10_layLeaf_256 (by decide) (fun q => ?_) (fun q => ?_)
                    · have hd := Tite_f q hd
                      refine v_iconst (v := 0) X dX10_layLeaf_263 (by decide) ?_
                      refine v_goto (tgt := 278) X dX10_layLeaf_264 (by decide) ?_
                      exact v_loc [1, 2, 3, 4, 5, 6, 7, 8, 9, 0] rfl (t_at (P := fun (u17 : Bool) m => V K 14 (mkM am hn m) 278 [(0, .ref am), (3, .int p3), (4, .int v1), (5, .int v2), (6, .int u3), (7, .int u4), (9, .int v8), (10, .int v11), (11, .int s12), (12, .int u16)] [.int (b2i u17)]) hd KJ)
                    · have hd := Tite_t q hd
                      refine v_iconst (v := 1) X dX10_layLeaf_259 (by decide) ?_
                      refine v_goto (tgt := 278) X dX10_layLeaf_260 (by decide) ?_
                      exact v_loc [1, 2, 3, 4, 5, 6, 7, 8, 9, 0] rfl (t_at (P := fun (u17 : Bool) m => V K 14 (mkM am hn m) 278 [(0, .ref am), (3, .int p3), (4, .int v1), (5, .int v2), (6, .int u3), (7, .int u4), (9, .int v8), (10, .int v11), (11, .int s12), (12, .int u16)] [.int (b2i u17)]) hd KJ)
                clear hd2
                refine v_if_ne (tgt := 241) X dX10_layLeaf_230 (by decide) (fun q => ?_) (fun q => ?_)
                · have hd := Tite_f q hd
                  refine v_iload X dX10_layLeaf_241 5 rfl ?_
                  refine v_iload X dX10_layLeaf_243 8 rfl ?_
                  refine v_iconst (v := 1) X dX10_layLeaf_245 (by decide) ?_
                  refine v_iadd X dX10_layLeaf_246 ?_
                  refine v_imul X dX10_layLeaf_247 ?_
                  exact v_loc [0, 1, 2, 3, 4, 5, 6, 7, 8] rfl (t_at (P := fun (u16 : Int32) m => V K 14 (mkM am hn m) 248 [(0, .ref am), (3, .int p3), (4, .int v1), (5, .int v2), (6, .int u3), (7, .int u4), (9, .int v8), (10, .int v11), (11, .int s12)] [.int u16]) hd KJ)
                · have hd := Tite_t q hd
                  refine v_iload X dX10_layLeaf_233 4 rfl ?_
                  refine v_iload X dX10_layLeaf_235 8 rfl ?_
                  refine v_imul X dX10_layLeaf_237 ?_
                  refine v_goto (tgt := 248) X dX10_layLeaf_238 (by decide) ?_
                  exact v_loc [0, 1, 2, 3, 4, 5, 6, 7, 8] rfl (t_at (P := fun (u16 : Int32) m => V K 14 (mkM am hn m) 248 [(0, .ref am), (3, .int p3), (4, .int v1), (5, .int v2), (6, .int u3), (7, .int u4), (9, .int v8), (10, .int v11), (11, .int s12)] [.int u16]) hd KJ)
            · have hd := Tite_t q hd
              refine v_iload X dX10_layLeaf_108 3 rfl ?_
              refine v_iconst (v := 1) X dX10_layLeaf_110 (by decide) ?_
              obtain ⟨u22, m1, hd, hd2⟩ := TM.bind_some hd
              have KJ : V K 14 (mkM am hn m1) 122 [(0, .ref am), (4, .int v1), (5, .int v2), (6, .int u3), (7, .int u4), (9, .int v8), (10, .int v11)] [.int u22] := by
                clear hd
                have hd := hd2
                refine v_istore (lv2 := [(11, .int u22), (0, .ref am), (4, .int v1), (5, .int v2), (6, .int u3), (7, .int u4), (9, .int v8), (10, .int v11)]) X dX10_layLeaf_122 (by decide) rfl ?_
                refine v_iconst (v := 0) X dX10_layLeaf_124 (by decide) ?_
                refine v_istore (lv2 := [(12, .int 0), (11, .int u22), (0, .ref am), (4, .int v1), (5, .int v2), (6, .int u3), (7, .int u4), (9, .int v8), (10, .int v11)]) X dX10_layLeaf_125 (by decide) rfl ?_
                obtain ⟨e26, m1, hd, hd2⟩ := TM.bind_some hd
                have KX : V K 14 (mkM am hn m1) 218 [] [] := by
                  clear hd
                  have hd := hd2
                  exact t_vret X hK hd ho dX10_layLeaf_218
                clear hd2
                refine v_loc [2, 3, 4, 5, 6, 7, 8, 1, 0] rfl ?_
                refine Tloop_ind hd (fun (s23 : Int32) m => V K 14 (mkM am hn m) 127 [(0, .ref am), (4, .int v1), (5, .int v2), (6, .int u3), (7, .int u4), (9, .int v8), (10, .int v11), (11, .int u22), (12, .int s23)] []) (fun s23 ms x m2 hd ih24 ho25 => ?_)
                refine v_iload X dX10_layLeaf_127 8 rfl ?_
                refine v_iload X dX10_layLeaf_129 1 rfl ?_
                refine v_icmp_ge (tgt := 218) X dX10_layLeaf_131 (by decide) (fun q => ?_) (fun q => ?_)
                · have hd := Tite_t q hd
                  exact v_loc [] rfl (t_at (P := fun (e26 : Unit) m => V K 14 (mkM am hn m) 218 [] []) (Tlp_out hd ho25) KX)
                · have hd := Tite_f q hd
                  refine v_iconst (v := 1) X dX10_layLeaf_134 (by decide) ?_
                  refine v_istore (lv2 := [(13, .int 1), (0, .ref am), (4, .int v1), (5, .int v2), (6, .int u3), (7, .int u4), (9, .int v8), (10, .int v11), (11, .int u22), (12, .int s23)]) X dX10_layLeaf_135 (by decide) rfl ?_
                  obtain ⟨e30, m1, hd, hd2⟩ := TM.bind_some hd
                  have KX : V K 14 (mkM am hn m1) 212 [(0, .ref am), (4, .int v1), (5, .int v2), (6, .int u3), (7, .int u4), (9, .int v8), (10, .int v11), (11, .int u22), (12, .int s23)] [] := by
                    clear hd
                    have hd := hd2
                    refine t_iincL (lv2 := fun v39 => [(12, .int v39), (0, .ref am), (4, .int v1), (5, .int v2), (6, .int u3), (7, .int u4), (9, .int v8), (10, .int v11), (11, .int u22)]) X hd dX10_layLeaf_212 8 rfl (by decide : Int32.ofInt 1 = 1) (by decide) (fun v39 => rfl) (fun v39 hd => ?_)
                    refine v_goto (tgt := 127) X dX10_layLeaf_215 (by decide) ?_
                    exact v_loc [1, 2, 3, 4, 5, 6, 7, 8, 0] rfl (Tlp_in (P := fun (s23 : Int32) m => V K 14 (mkM am hn m) 127 [(0, .ref am), (4, .int v1), (5, .int v2), (6, .int u3), (7, .int u4), (9, .int v8), (10, .int v11), (11, .int u22), (12, .int s23)] []) hd ih24)
                  clear hd2
                  refine v_loc [1, 2, 3, 4, 5, 6, 7, 8, 9, 0] rfl ?_
                  refine Tloop_ind hd (fun (s27 : Int32) m => V K 14 (mkM am hn m) 137 [(0, .ref am), (4, .int v1), (5, .int v2), (6, .int u3), (7, .int u4), (9, .int v8), (10, .int v11), (11, .int u22), (12, .int s23), (13, .int s27)] []) (fun s27 ms x m2 hd ih28 ho29 => ?_)
                  refine v_iload X dX10_layLeaf_137 9 rfl ?_
                  refine v_iload X dX10_layLeaf_139 7 rfl ?_
                  refine v_icmp_gt (tgt := 212) X dX10_layLeaf_141 (by decide) (fun q => ?_) (fun q => ?_)
                  · have hd := Tite_t q hd
                    exact v_loc [0, 1, 2, 3, 4, 5, 6, 7, 8] rfl (t_at (P := fun (e30 : Unit) m => V K 14 (mkM am hn m) 212 [(0, .ref am), (4, .int v1), (5, .int v2), (6, .int u3), (7, .int u4), (9, .int v8), (10, .int v11), (11, .int u22), (12, .int s23)] []) (Tlp_out hd ho29) KX)
                  · have hd := Tite_f q hd
                    refine v_iload X dX10_layLeaf_144 9 rfl ?_
                    refine v_iload X dX10_layLeaf_146 8 rfl ?_
                    obtain ⟨u31, m1, hd, hd2⟩ := TM.bind_some hd
                    have KJ : V K 14 (mkM am hn m1) 206 [(0, .ref am), (4, .int v1), (5, .int v2), (6, .int u3), (7, .int u4), (9, .int v8), (10, .int v11), (11, .int u22), (12, .int s23), (13, .int s27)] [] := by
                      clear hd
                      have hd := hd2
                      refine t_iincL (lv2 := fun v32 => [(13, .int v32), (0, .ref am), (4, .int v1), (5, .int v2), (6, .int u3), (7, .int u4), (9, .int v8), (10, .int v11), (11, .int u22), (12, .int s23)]) X hd dX10_layLeaf_206 9 rfl (by decide : Int32.ofInt 1 = 1) (by decide) (fun v32 => rfl) (fun v32 hd => ?_)
                      refine v_goto (tgt := 137) X dX10_layLeaf_209 (by decide) ?_
                      exact v_loc [1, 2, 3, 4, 5, 6, 7, 8, 9, 0] rfl (Tlp_in (P := fun (s27 : Int32) m => V K 14 (mkM am hn m) 137 [(0, .ref am), (4, .int v1), (5, .int v2), (6, .int u3), (7, .int u4), (9, .int v8), (10, .int v11), (11, .int u22), (12, .int s23), (13, .int s27)] []) hd ih28)
                    clear hd2
                    refine v_icmp_eq (tgt := 160) X dX10_layLeaf_148 (by decide) (fun q => ?_) (fun q => ?_)
                    · have hd := Tite_t q hd
                      refine v_aload_n X dX10_layLeaf_160 0 0 rfl rfl ?_
                      refine v_iload X dX10_layLeaf_161 5 rfl ?_
                      refine v_iload X dX10_layLeaf_163 2 rfl ?_
                      obtain ⟨u33, m1, hd, hd2⟩ := TM.bind_some hd
                      have KJ : V K 14 (mkM am hn m1) 181 [(0, .ref am), (4, .int v1), (5, .int v2), (6, .int u3), (7, .int u4), (9, .int v8), (10, .int v11), (11, .int u22), (12, .int s23), (13, .int s27)] [.int u33, .int v8, .ref am] := by
                        clear hd
                        have hd := hd2
                        refine v_iadd X dX10_layLeaf_181 ?_
                        refine v_iload X dX10_layLeaf_182 6 rfl ?_
                        refine v_iload X dX10_layLeaf_184 2 rfl ?_
                        obtain ⟨u34, m1, hd, hd2⟩ := TM.bind_some hd
                        have KJ : V K 14 (mkM am hn m1) 202 [(0, .ref am), (4, .int v1), (5, .int v2), (6, .int u3), (7, .int u4), (9, .int v8), (10, .int v11), (11, .int u22), (12, .int s23), (13, .int s27)] [.int u34, .int v11, .int (v8 + u33), .ref am] := by
                          clear hd
                          have hd := hd2
                          refine v_iadd X dX10_layLeaf_202 ?_
                          refine t_callV X hK hd (ct_X10_put _ am (v8 + u33) (v11 + u34)) (lw_V q2006 q2008 qs61 q120 q2009) ⟨rfl, dn_X10_put⟩ rfl ⟨by decide, by decide⟩ rfl (Nat.le_of_ble_eq_true rfl) dX10_layLeaf_203 (fun v35 ms hd => ?_)
                          show V K 14 (mkM am hn ms) 206 [(0, .ref am), (4, .int v1), (5, .int v2), (6, .int u3), (7, .int u4), (9, .int v8), (10, .int v11), (11, .int u22), (12, .int s23), (13, .int s27)] []
                          exact v_loc [0, 1, 2, 3, 4, 5, 6, 7, 8, 9] rfl (t_at (P := fun (u31 : Unit) m => V K 14 (mkM am hn m) 206 [(0, .ref am), (4, .int v1), (5, .int v2), (6, .int u3), (7, .int u4), (9, .int v8), (10, .int v11), (11, .int u22), (12, .int s23), (13, .int s27)] []) hd KJ)
                        clear hd2
                        refine v_if_ne (tgt := 197) X dX10_layLeaf_186 (by decide) (fun q => ?_) (fun q => ?_)
                        · have hd := Tite_f q hd
                          refine v_iload X dX10_layLeaf_197 3 rfl ?_
                          refine v_iload X dX10_layLeaf_199 8 rfl ?_
                          refine v_imul X dX10_layLeaf_201 ?_
                          exact v_loc [0, 1, 2, 3, 4, 5, 6, 7, 8, 9] rfl (t_at (P := fun (u34 : Int32) m => V K 14 (mkM am hn m) 202 [(0, .ref am), (4, .int v1), (5, .int v2), (6, .int u3), (7, .int u4), (9, .int v8), (10, .int v11), (11, .int u22), (12, .int s23), (13, .int s27)] [.int u34, .int v11, .int (v8 + u33), .ref am]) hd KJ)
                        · have hd := Tite_t q hd
                          refine v_iload X dX10_layLeaf_189 4 rfl ?_
                          refine v_iload X dX10_layLeaf_191 9 rfl ?_
                          refine v_imul X dX10_layLeaf_193 ?_
                          refine v_goto (tgt := 202) X dX10_layLeaf_194 (by decide) ?_
                          exact v_loc [0, 1, 2, 3, 4, 5, 6, 7, 8, 9] rfl (t_at (P := fun (u34 : Int32) m => V K 14 (mkM am hn m) 202 [(0, .ref am), (4, .int v1), (5, .int v2), (6, .int u3), (7, .int u4), (9, .int v8), (10, .int v11), (11, .int u22), (12, .int s23), (13, .int s27)] [.int u34, .int v11, .int (v8 + u33), .ref am]) hd KJ)
                      clear hd2
                      refine v_if_ne (tgt := 176) X dX10_layLeaf_165 (by decide) (fun q => ?_) (fun q => ?_)
                      · have hd := Tite_f q hd
                        refine v_iload X dX10_layLeaf_176 4 rfl ?_
                        refine v_iload X dX10_layLeaf_178 9 rfl ?_
                        refine v_imul X dX10_layLeaf_180 ?_
                        exact v_loc [0, 1, 2, 3, 4, 5, 6, 7, 8, 9] rfl (t_at (P := fun (u33 : Int32) m => V K 14 (mkM am hn m) 181 [(0, .ref am), (4, .int v1), (5, .int v2), (6, .int u3), (7, .int u4), (9, .int v8), (10, .int v11), (11, .int u22), (12, .int s23), (13, .int s27)] [.int u33, .int v8, .ref am]) hd KJ)
                      · have hd := Tite_t q hd
                        refine v_iload X dX10_layLeaf_168 3 rfl ?_
                        refine v_iload X dX10_layLeaf_170 8 rfl ?_
                        refine v_imul X dX10_layLeaf_172 ?_
                        refine v_goto (tgt := 181) X dX10_layLeaf_173 (by decide) ?_
                        exact v_loc [0, 1, 2, 3, 4, 5, 6, 7, 8, 9] rfl (t_at (P := fun (u33 : Int32) m => V K 14 (mkM am hn m) 181 [(0, .ref am), (4, .int v1), (5, .int v2), (6, .int u3), (7, .int u4), (9, .int v8), (10, .int v11), (11, .int u22), (12, .int s23), (13, .int s27)] [.int u33, .int v8, .ref am]) hd KJ)
                    · have hd := Tite_f q hd
                      refine v_iload X dX10_layLeaf_151 9 rfl ?_
                      refine v_iload X dX10_layLeaf_153 8 rfl ?_
                      refine v_iconst (v := 1) X dX10_layLeaf_155 (by decide) ?_
                      refine v_iadd X dX10_layLeaf_156 ?_
                      refine v_icmp_ne (tgt := 206) X dX10_layLeaf_157 (by decide) (fun q => ?_) (fun q => ?_)
                      · have hd := Tite_f q hd
                        exact v_loc [0, 1, 2, 3, 4, 5, 6, 7, 8, 9] rfl (t_at (P := fun (u31 : Unit) m => V K 14 (mkM am hn m) 206 [(0, .ref am), (4, .int v1), (5, .int v2), (6, .int u3), (7, .int u4), (9, .int v8), (10, .int v11), (11, .int u22), (12, .int s23), (13, .int s27)] []) hd KJ)
                      · have hd := Tite_t q hd
                        refine v_aload_n X dX10_layLeaf_160 0 0 rfl rfl ?_
                        refine v_iload X dX10_layLeaf_161 5 rfl ?_
                        refine v_iload X dX10_layLeaf_163 2 rfl ?_
                        obtain ⟨u36, m1, hd, hd2⟩ := TM.bind_some hd
                        have KJ : V K 14 (mkM am hn m1) 181 [(0, .ref am), (4, .int v1), (5, .int v2), (6, .int u3), (7, .int u4), (9, .int v8), (10, .int v11), (11, .int u22), (12, .int s23), (13, .int s27)] [.int u36, .int v8, .ref am] := by
                          clear hd
                          have hd := hd2
                          refine v_iadd X dX10_layLeaf_181 ?_
                          refine v_iload X dX10_layLeaf_182 6 rfl ?_
                          refine v_iload X dX10_layLeaf_184 2 rfl ?_
                          obtain ⟨u37, m1, hd, hd2⟩ := TM.bind_some hd
                          have KJ : V K 14 (mkM am hn m1) 202 [(0, .ref am), (4, .int v1), (5, .int v2), (6, .int u3), (7, .int u4), (9, .int v8), (10, .int v11), (11, .int u22), (12, .int s23), (13, .int s27)] [.int u37, .int v11, .int (v8 + u36), .ref am] := by
                            clear hd
                            have hd := hd2
                            refine v_iadd X dX10_layLeaf_202 ?_
                            refine t_callV X hK hd (ct_X10_put _ am (v8 + u36) (v11 + u37)) (lw_V q2006 q2008 qs61 q120 q2009) ⟨rfl, dn_X10_put⟩ rfl ⟨by decide, by decide⟩ rfl (Nat.le_of_ble_eq_true rfl) dX10_layLeaf_203 (fun v38 ms hd => ?_)
                            show V K 14 (mkM am hn ms) 206 [(0, .ref am), (4, .int v1), (5, .int v2), (6, .int u3), (7, .int u4), (9, .int v8), (10, .int v11), (11, .int u22), (12, .int s23), (13, .int s27)] []
                            exact v_loc [0, 1, 2, 3, 4, 5, 6, 7, 8, 9] rfl (t_at (P := fun (u31 : Unit) m => V K 14 (mkM am hn m) 206 [(0, .ref am), (4, .int v1), (5, .int v2), (6, .int u3), (7, .int u4), (9, .int v8), (10, .int v11), (11, .int u22), (12, .int s23), (13, .int s27)] []) hd KJ)
                          clear hd2
                          refine v_if_ne (tgt := 197) X dX10_layLeaf_186 (by decide) (fun q => ?_) (fun q => ?_)
                          · have hd := Tite_f q hd
                            refine v_iload X dX10_layLeaf_197 3 rfl ?_
                            refine v_iload X dX10_layLeaf_199 8 rfl ?_
                            refine v_imul X dX10_layLeaf_201 ?_
                            exact v_loc [0, 1, 2, 3, 4, 5, 6, 7, 8, 9] rfl (t_at (P := fun (u37 : Int32) m => V K 14 (mkM am hn m) 202 [(0, .ref am), (4, .int v1), (5, .int v2), (6, .int u3), (7, .int u4), (9, .int v8), (10, .int v11), (11, .int u22), (12, .int s23), (13, .int s27)] [.int u37, .int v11, .int (v8 + u36), .ref am]) hd KJ)
                          · have hd := Tite_t q hd
                            refine v_iload X dX10_layLeaf_189 4 rfl ?_
                            refine v_iload X dX10_layLeaf_191 9 rfl ?_
                            refine v_imul X dX10_layLeaf_193 ?_
                            refine v_goto (tgt := 202) X dX10_layLeaf_194 (by decide) ?_
                            exact v_loc [0, 1, 2, 3, 4, 5, 6, 7, 8, 9] rfl (t_at (P := fun (u37 : Int32) m => V K 14 (mkM am hn m) 202 [(0, .ref am), (4, .int v1), (5, .int v2), (6, .int u3), (7, .int u4), (9, .int v8), (10, .int v11), (11, .int u22), (12, .int s23), (13, .int s27)] [.int u37, .int v11, .int (v8 + u36), .ref am]) hd KJ)
                        clear hd2
                        refine v_if_ne (tgt := 176) X dX10_layLeaf_165 (by decide) (fun q => ?_) (fun q => ?_)
                        · have hd := Tite_f q hd
                          refine v_iload X dX10_layLeaf_176 4 rfl ?_
                          refine v_iload X dX10_layLeaf_178 9 rfl ?_
                          refine v_imul X dX10_layLeaf_180 ?_
                          exact v_loc [0, 1, 2, 3, 4, 5, 6, 7, 8, 9] rfl (t_at (P := fun (u36 : Int32) m => V K 14 (mkM am hn m) 181 [(0, .ref am), (4, .int v1), (5, .int v2), (6, .int u3), (7, .int u4), (9, .int v8), (10, .int v11), (11, .int u22), (12, .int s23), (13, .int s27)] [.int u36, .int v8, .ref am]) hd KJ)
                        · have hd := Tite_t q hd
                          refine v_iload X dX10_layLeaf_168 3 rfl ?_
                          refine v_iload X dX10_layLeaf_170 8 rfl ?_
                          refine v_imul X dX10_layLeaf_172 ?_
                          refine v_goto (tgt := 181) X dX10_layLeaf_173 (by decide) ?_
                          exact v_loc [0, 1, 2, 3, 4, 5, 6, 7, 8, 9] rfl (t_at (P := fun (u36 : Int32) m => V K 14 (mkM am hn m) 181 [(0, .ref am), (4, .int v1), (5, .int v2), (6, .int u3), (7, .int u4), (9, .int v8), (10, .int v11), (11, .int u22), (12, .int s23), (13, .int s27)] [.int u36, .int v8, .ref am]) hd KJ)
              clear hd2
              refine v_icmp_le (tgt := 121) X dX10_layLeaf_111 (by decide) (fun q => ?_) (fun q => ?_)
              · have hd := Tite_t q hd
                refine v_iconst (v := 1) X dX10_layLeaf_121 (by decide) ?_
                exact v_loc [1, 3, 4, 5, 6, 7, 0] rfl (t_at (P := fun (u22 : Int32) m => V K 14 (mkM am hn m) 122 [(0, .ref am), (4, .int v1), (5, .int v2), (6, .int u3), (7, .int u4), (9, .int v8), (10, .int v11)] [.int u22]) hd KJ)
              · have hd := Tite_f q hd
                refine v_iload X dX10_layLeaf_114 3 rfl ?_
                refine v_iconst (v := 1) X dX10_layLeaf_116 (by decide) ?_
                refine v_isub X dX10_layLeaf_117 ?_
                refine v_goto (tgt := 122) X dX10_layLeaf_118 (by decide) ?_
                exact v_loc [1, 3, 4, 5, 6, 7, 0] rfl (t_at (P := fun (u22 : Int32) m => V K 14 (mkM am hn m) 122 [(0, .ref am), (4, .int v1), (5, .int v2), (6, .int u3), (7, .int u4), (9, .int v8), (10, .int v11)] [.int u22]) hd KJ)
          clear hd2
          refine v_icmp_ne (tgt := 94) X dX10_layLeaf_86 (by decide) (fun q => ?_) (fun q => ?_)
          · have hd := Tite_f q hd
            refine v_iconst (v := 0) X dX10_layLeaf_94 (by decide) ?_
            exact v_loc [1, 3, 4, 5, 6, 7, 0] rfl (t_at (P := fun (u10 : Int32) m => V K 14 (mkM am hn m) 95 [(0, .ref am), (3, .int p3), (4, .int v1), (5, .int v2), (6, .int u3), (7, .int u4), (9, .int v8)] [.int u10, .int v9]) hd KJ)
          · have hd := Tite_t q hd
            refine v_iload X dX10_layLeaf_89 8 rfl ?_
            refine v_goto (tgt := 95) X dX10_layLeaf_91 (by decide) ?_
            exact v_loc [1, 3, 4, 5, 6, 7, 0] rfl (t_at (P := fun (u10 : Int32) m => V K 14 (mkM am hn m) 95 [(0, .ref am), (3, .int p3), (4, .int v1), (5, .int v2), (6, .int u3), (7, .int u4), (9, .int v8)] [.int u10, .int v9]) hd KJ)
        clear hd2
        refine v_if_ne (tgt := 73) X dX10_layLeaf_65 (by decide) (fun q => ?_) (fun q => ?_)
        · have hd := Tite_f q hd
          refine v_iconst (v := 0) X dX10_layLeaf_73 (by decide) ?_
          exact v_loc [1, 2, 3, 4, 5, 6, 7, 0] rfl (t_at (P := fun (u7 : Int32) m => V K 14 (mkM am hn m) 74 [(0, .ref am), (1, .int p1), (3, .int p3), (4, .int v1), (5, .int v2), (6, .int u3), (7, .int u4), (8, .int u5)] [.int u7, .int v6]) hd KJ)
        · have hd := Tite_t q hd
          refine v_iload X dX10_layLeaf_68 0 rfl ?_
          refine v_goto (tgt := 74) X dX10_layLeaf_70 (by decide) ?_
          exact v_loc [1, 2, 3, 4, 5, 6, 7, 0] rfl (t_at (P := fun (u7 : Int32) m => V K 14 (mkM am hn m) 74 [(0, .ref am), (1, .int p1), (3, .int p3), (4, .int v1), (5, .int v2), (6, .int u3), (7, .int u4), (8, .int u5)] [.int u7, .int v6]) hd KJ)
      clear hd2
      refine v_if_ne (tgt := 51) X dX10_layLeaf_44 (by decide) (fun q => ?_) (fun q => ?_)
      · have hd := Tite_f q hd
        refine v_iload X dX10_layLeaf_51 5 rfl ?_
        refine v_iconst (v := 1) X dX10_layLeaf_53 (by decide) ?_
        refine v_isub X dX10_layLeaf_54 ?_
        exact v_loc [1, 2, 4, 5, 6, 7, 0] rfl (t_at (P := fun (u5 : Int32) m => V K 14 (mkM am hn m) 55 [(0, .ref am), (1, .int p1), (3, .int p3), (4, .int v1), (5, .int v2), (6, .int u3), (7, .int u4)] [.int u5]) hd KJ)
      · have hd := Tite_t q hd
        refine v_iconst (v := 0) X dX10_layLeaf_47 (by decide) ?_
        refine v_goto (tgt := 55) X dX10_layLeaf_48 (by decide) ?_
        exact v_loc [1, 2, 4, 5, 6, 7, 0] rfl (t_at (P := fun (u5 : Int32) m => V K 14 (mkM am hn m) 55 [(0, .ref am), (1, .int p1), (3, .int p3), (4, .int v1), (5, .int v2), (6, .int u3), (7, .int u4)] [.int u5]) hd KJ)
    clear hd2
    refine v_icmp_ge (tgt := 38) X dX10_layLeaf_31 (by decide) (fun q => ?_) (fun q => ?_)
    · have hd := Tite_t q hd
      refine v_iconst (v := 1) X dX10_layLeaf_38 (by decide) ?_
      exact v_loc [1, 2, 3, 4, 5, 6, 0] rfl (t_at (P := fun (u4 : Int32) m => V K 14 (mkM am hn m) 39 [(0, .ref am), (1, .int p1), (2, .int p2), (3, .int p3), (4, .int v1), (5, .int v2), (6, .int u3)] [.int u4]) hd KJ)
    · have hd := Tite_f q hd
      refine v_iconst (v := (-1)) X dX10_layLeaf_34 (by decide) ?_
      refine v_goto (tgt := 39) X dX10_layLeaf_35 (by decide) ?_
      exact v_loc [1, 2, 3, 4, 5, 6, 0] rfl (t_at (P := fun (u4 : Int32) m => V K 14 (mkM am hn m) 39 [(0, .ref am), (1, .int p1), (2, .int p2), (3, .int p3), (4, .int v1), (5, .int v2), (6, .int u3)] [.int u4]) hd KJ)
  clear hd2
  refine v_if_ne (tgt := 26) X dX10_layLeaf_19 (by decide) (fun q => ?_) (fun q => ?_)
  · have hd := Tite_f q hd
    refine v_iconst (v := (-1)) X dX10_layLeaf_26 (by decide) ?_
    exact v_loc [2, 3, 4, 5, 1, 0] rfl (t_at (P := fun (u3 : Int32) m => V K 14 (mkM am hn m) 27 [(0, .ref am), (1, .int p1), (2, .int p2), (3, .int p3), (4, .int v1), (5, .int v2)] [.int u3]) hd KJ)
  · have hd := Tite_t q hd
    refine v_iconst (v := 1) X dX10_layLeaf_22 (by decide) ?_
    refine v_goto (tgt := 27) X dX10_layLeaf_23 (by decide) ?_
    exact v_loc [2, 3, 4, 5, 1, 0] rfl (t_at (P := fun (u3 : Int32) m => V K 14 (mkM am hn m) 27 [(0, .ref am), (1, .int p1), (2, .int p2), (3, .int p3), (4, .int v1), (5, .int v2)] [.int u3]) hd KJ)
