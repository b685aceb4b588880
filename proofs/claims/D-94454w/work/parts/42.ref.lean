set_option maxRecDepth 100000
def dkwX10_judged_1 : List UInt8 := [16, 254, 172]
abbrev dktX10_judged_1 : List UInt8 := dkwX10_judged_1 ++ []
def dkwX10_judged_0 : List UInt8 := [42, 3, 181, 0, 108, 27, 3, 7, 184, 0, 187, 153, 0, 12, 42, 180, 0, 84, 27, 46, 167, 0, 5]
abbrev dktX10_judged_0 : List UInt8 := dkwX10_judged_0 ++ dktX10_judged_1
theorem dksX10_judged_0 : cX10_judged.data.toList.drop 0 = dktX10_judged_0 := by decide +kernel
theorem dksX10_judged_1 : cX10_judged.data.toList.drop 23 = dktX10_judged_1 := dk_seg dksX10_judged_0 23 rfl rfl
theorem dX10_judged_0 : decode cX10_judged 0 = .ok (.aload_n 0, 1) := dk_42 (dk_at dksX10_judged_0 0 rfl rfl)
theorem dX10_judged_1 : decode cX10_judged 1 = .ok (.iconst 0, 1) := dk_3 (dk_at dksX10_judged_0 1 rfl rfl)
theorem dX10_judged_2 : decode cX10_judged 2 = .ok (.putfield 108, 3) := dk_181 0 108 (dk_at dksX10_judged_0 2 rfl rfl)
theorem dX10_judged_5 : decode cX10_judged 5 = .ok (.iload_n 1, 1) := dk_27 (dk_at dksX10_judged_0 5 rfl rfl)
theorem dX10_judged_6 : decode cX10_judged 6 = .ok (.iconst 0, 1) := dk_3 (dk_at dksX10_judged_0 6 rfl rfl)
theorem dX10_judged_7 : decode cX10_judged 7 = .ok (.iconst 4, 1) := dk_7 (dk_at dksX10_judged_0 7 rfl rfl)
theorem dX10_judged_8 : decode cX10_judged 8 = .ok (.invokestatic 187, 3) := dk_184 0 187 (dk_at dksX10_judged_0 8 rfl rfl)
theorem dX10_judged_11 : decode cX10_judged 11 = .ok (.ifCond .eq 12, 3) := dk_153 0 12 (dk_at dksX10_judged_0 11 rfl rfl)
theorem dX10_judged_14 : decode cX10_judged 14 = .ok (.aload_n 0, 1) := dk_42 (dk_at dksX10_judged_0 14 rfl rfl)
theorem dX10_judged_15 : decode cX10_judged 15 = .ok (.getfield 84, 3) := dk_180 0 84 (dk_at dksX10_judged_0 15 rfl rfl)
theorem dX10_judged_18 : decode cX10_judged 18 = .ok (.iload_n 1, 1) := dk_27 (dk_at dksX10_judged_0 18 rfl rfl)
theorem dX10_judged_19 : decode cX10_judged 19 = .ok (.iaload, 1) := dk_46 (dk_at dksX10_judged_0 19 rfl rfl)
theorem dX10_judged_20 : decode cX10_judged 20 = .ok (.goto 5, 3) := dk_167 0 5 (dk_at dksX10_judged_0 20 rfl rfl)
theorem dX10_judged_23 : decode cX10_judged 23 = .ok (.bipush (-2), 2) := dk_16 254 (dk_at dksX10_judged_1 0 rfl rfl)
theorem dX10_judged_25 : decode cX10_judged 25 = .ok (.ireturn, 1) := dk_172 (dk_at dksX10_judged_1 2 rfl rfl)
theorem dn_X10_judged : yX10_judged.cls ≠ "java/lang/invoke/MethodHandle" ∧ yX10_judged.cls ≠ "java/lang/invoke/VarHandle" ∧ (parseMethodDescriptor yX10_judged.desc).map (fun d => d.parameters.length) = some 1 := by decide +kernel
noncomputable def M_X10_judged (p1 : Int32) : TM Int32 := TM.bind (sI 0 0) (fun _ => TM.bind (M_X10_isIn p1 0 4) (fun v1 => TM.bind ((cond v1 (TM.bind (tA 48 5 p1) (fun v3 => TM.pure v3)) (TM.pure (-2)) : TM (Int32))) (fun u2 => TM.pure u2)))
set_option maxHeartbeats 4000000 in
theorem ct_X10_judged (G : gG) (am : Nat) (p1 : Int32) : gCtM G am yX10_judged cX10_judged 2 (some .int) 1 22 [.ref am, .int p1] (M_X10_judged p1) (fun x : Int32 => some (.int x)) := by
  refine gCtM.of (by decide) (Nat.le_of_ble_eq_true rfl) (fun K hn ms ms' r hG X hK hd ho => ?_)
  subst hG
  have X : gX K cX10_judged 2 "BitingDoorsModel" "judged" (some .int) 1 22 := X
  show V K 2 (mkM am hn ms) 0 [(0, .ref am), (1, .int p1)] []
  unfold M_X10_judged at hd
  refine v_aload_n X dX10_judged_0 0 0 rfl rfl ?_
  refine v_iconst (v := 0) X dX10_judged_1 (by decide) ?_
  refine t_putI X hd rfl fp_X10_108 dX10_judged_2 (fun ms hd => ?_)
  refine v_iload_n X dX10_judged_5 1 1 rfl rfl ?_
  refine v_iconst (v := 0) X dX10_judged_6 (by decide) ?_
  refine v_iconst (v := 4) X dX10_judged_7 (by decide) ?_
  refine t_callS X hK hd (ct_X10_isIn _ am p1 0 4) (lw_S q1940 q1941 q120 q1942) dn_X10_isIn rfl ⟨by decide, by decide⟩ rfl (Nat.le_of_ble_eq_true rfl) dX10_judged_8 (fun v1 ms hd => ?_)
  show V K 2 (mkM am hn ms) 11 [(0, .ref am), (1, .int p1)] [.int (b2i v1)]
  obtain ⟨u2, m1, hd, hd2⟩ := TM.bind_some hd
  have KJ : V K 2 (mkM am hn m1) 25 [] [.int u2] := by
    clear hd
    have hd := hd2
    exact t_iret X hK hd ho dX10_judged_25
  clear hd2
  refine v_ifZ_eq (tgt := 23) X dX10_judged_11 (by decide) (fun q => ?_) (fun q => ?_)
  · have hd := Tcnd_f q hd
    refine v_bipush (v := (-2)) X dX10_judged_23 (by decide) ?_
    exact v_loc [] rfl (t_at (P := fun (u2 : Int32) m => V K 2 (mkM am hn m) 25 [] [.int u2]) hd KJ)
  · have hd := Tcnd_t q hd
    refine v_aload_n X dX10_judged_14 0 0 rfl rfl ?_
    refine t_getA (j := 24) X rfl fl_X10_84 dX10_judged_15 ?_
    refine v_iload_n X dX10_judged_18 1 1 rfl rfl ?_
    refine t_iald (j := 24) X hd rfl dX10_judged_19 (fun v3 hd => ?_)
    refine v_goto (tgt := 25) X dX10_judged_20 (by decide) ?_
    exact v_loc [] rfl (t_at (P := fun (u2 : Int32) m => V K 2 (mkM am hn m) 25 [] [.int u2]) hd KJ)
def dkwX10_wayAt_1 : List UInt8 := [167, 0, 4, 2, 172]
abbrev dktX10_wayAt_1 : List UInt8 := dkwX10_wayAt_1 ++ []
def dkwX10_wayAt_0 : List UInt8 := [42, 3, 181, 0, 108, 27, 155, 0, 20, 27, 42, 180, 1, 173, 162, 0, 12, 42, 180, 0, 99, 27, 46]
abbrev dktX10_wayAt_0 : List UInt8 := dkwX10_wayAt_0 ++ dktX10_wayAt_1
theorem dksX10_wayAt_0 : cX10_wayAt.data.toList.drop 0 = dktX10_wayAt_0 := by decide +kernel
theorem dksX10_wayAt_1 : cX10_wayAt.data.toList.drop 23 = dktX10_wayAt_1 := dk_seg dksX10_wayAt_0 23 rfl rfl
theorem dX10_wayAt_0 : decode cX10_wayAt 0 = .ok (.aload_n 0, 1) := dk_42 (dk_at dksX10_wayAt_0 0 rfl rfl)
theorem dX10_wayAt_1 : decode cX10_wayAt 1 = .ok (.iconst 0, 1) := dk_3 (dk_at dksX10_wayAt_0 1 rfl rfl)
theorem dX10_wayAt_2 : decode cX10_wayAt 2 = .ok (.putfield 108, 3) := dk_181 0 108 (dk_at dksX10_wayAt_0 2 rfl rfl)
theorem dX10_wayAt_5 : decode cX10_wayAt 5 = .ok (.iload_n 1, 1) := dk_27 (dk_at dksX10_wayAt_0 5 rfl rfl)
theorem dX10_wayAt_6 : decode cX10_wayAt 6 = .ok (.ifCond .lt 20, 3) := dk_155 0 20 (dk_at dksX10_wayAt_0 6 rfl rfl)
theorem dX10_wayAt_9 : decode cX10_wayAt 9 = .ok (.iload_n 1, 1) := dk_27 (dk_at dksX10_wayAt_0 9 rfl rfl)
theorem dX10_wayAt_10 : decode cX10_wayAt 10 = .ok (.aload_n 0, 1) := dk_42 (dk_at dksX10_wayAt_0 10 rfl rfl)
theorem dX10_wayAt_11 : decode cX10_wayAt 11 = .ok (.getfield 429, 3) := dk_180 1 173 (dk_at dksX10_wayAt_0 11 rfl rfl)
theorem dX10_wayAt_14 : decode cX10_wayAt 14 = .ok (.if_icmp .ge 12, 3) := dk_162 0 12 (dk_at dksX10_wayAt_0 14 rfl rfl)
theorem dX10_wayAt_17 : decode cX10_wayAt 17 = .ok (.aload_n 0, 1) := dk_42 (dk_at dksX10_wayAt_0 17 rfl rfl)
theorem dX10_wayAt_18 : decode cX10_wayAt 18 = .ok (.getfield 99, 3) := dk_180 0 99 (dk_at dksX10_wayAt_0 18 rfl rfl)
theorem dX10_wayAt_21 : decode cX10_wayAt 21 = .ok (.iload_n 1, 1) := dk_27 (dk_at dksX10_wayAt_0 21 rfl rfl)
theorem dX10_wayAt_22 : decode cX10_wayAt 22 = .ok (.iaload, 1) := dk_46 (dk_at dksX10_wayAt_0 22 rfl rfl)
theorem dX10_wayAt_23 : decode cX10_wayAt 23 = .ok (.goto 4, 3) := dk_167 0 4 (dk_at dksX10_wayAt_1 0 rfl rfl)
theorem dX10_wayAt_26 : decode cX10_wayAt 26 = .ok (.iconst (-1), 1) := dk_2 (dk_at dksX10_wayAt_1 3 rfl rfl)
theorem dX10_wayAt_27 : decode cX10_wayAt 27 = .ok (.ireturn, 1) := dk_172 (dk_at dksX10_wayAt_1 4 rfl rfl)
theorem dn_X10_wayAt : yX10_wayAt.cls ≠ "java/lang/invoke/MethodHandle" ∧ yX10_wayAt.cls ≠ "java/lang/invoke/VarHandle" ∧ (parseMethodDescriptor yX10_wayAt.desc).map (fun d => d.parameters.length) = some 1 := by decide +kernel
noncomputable def M_X10_wayAt (p1 : Int32) : TM Int32 := TM.bind (sI 0 0) (fun _ => TM.bind ((if p1 < 0 then TM.pure (-1) else TM.bind (tI 57) (fun v2 => if v2 ≤ p1 then TM.pure (-1) else TM.bind (tA 54 24300 p1) (fun v3 => TM.pure v3)) : TM (Int32))) (fun u1 => TM.pure u1))
set_option maxHeartbeats 4000000 in
theorem ct_X10_wayAt (G : gG) (am : Nat) (p1 : Int32) : gCtM G am yX10_wayAt cX10_wayAt 2 (some .int) 0 0 [.ref am, .int p1] (M_X10_wayAt p1) (fun x : Int32 => some (.int x)) := by
  refine gCtM.of (by decide) (Nat.le_of_ble_eq_true rfl) (fun K hn ms ms' r hG X hK hd ho => ?_)
  subst hG
  have X : gX K cX10_wayAt 2 "BitingDoorsModel" "wayAt" (some .int) 0 0 := X
  show V K 2 (mkM am hn ms) 0 [(0, .ref am), (1, .int p1)] []
  unfold M_X10_wayAt at hd
  refine v_aload_n X dX10_wayAt_0 0 0 rfl rfl ?_
  refine v_iconst (v := 0) X dX10_wayAt_1 (by decide) ?_
  refine t_putI X hd rfl fp_X10_108 dX10_wayAt_2 (fun ms hd => ?_)
  refine v_iload_n X dX10_wayAt_5 1 1 rfl rfl ?_
  obtain ⟨u1, m1, hd, hd2⟩ := TM.bind_some hd
  have KJ : V K 2 (mkM am hn m1) 27 [] [.int u1] := by
    clear hd
    have hd := hd2
    exact t_iret X hK hd ho dX10_wayAt_27
  clear hd2
  refine v_if_lt (tgt := 26) X dX10_wayAt_6 (by decide) (fun q => ?_) (fun q => ?_)
  · have hd := Tite_t q hd
    refine v_iconst (v := (-1)) X dX10_wayAt_26 (by decide) ?_
    exact v_loc [] rfl (t_at (P := fun (u1 : Int32) m => V K 2 (mkM am hn m) 27 [] [.int u1]) hd KJ)
  · have hd := Tite_f q hd
    refine v_iload_n X dX10_wayAt_9 1 1 rfl rfl ?_
    refine v_aload_n X dX10_wayAt_10 0 0 rfl rfl ?_
    refine t_getI X hd rfl fl_X10_429 dX10_wayAt_11 (fun v2 hd => ?_)
    refine v_icmp_ge (tgt := 26) X dX10_wayAt_14 (by decide) (fun q => ?_) (fun q => ?_)
    · have hd := Tite_t q hd
      refine v_iconst (v := (-1)) X dX10_wayAt_26 (by decide) ?_
      exact v_loc [] rfl (t_at (P := fun (u1 : Int32) m => V K 2 (mkM am hn m) 27 [] [.int u1]) hd KJ)
    · have hd := Tite_f q hd
      refine v_aload_n X dX10_wayAt_17 0 0 rfl rfl ?_
      refine t_getA (j := 29) X rfl fl_X10_99 dX10_wayAt_18 ?_
      refine v_iload_n X dX10_wayAt_21 1 1 rfl rfl ?_
      refine t_iald (j := 29) X hd rfl dX10_wayAt_22 (fun v3 hd => ?_)
      refine v_goto (tgt := 27) X dX10_wayAt_23 (by decide) ?_
      exact v_loc [] rfl (t_at (P := fun (u1 : Int32) m => V K 2 (mkM am hn m) 27 [] [.int u1]) hd KJ)
def dkwX10_place_0 : List UInt8 := [42, 3, 181, 0, 108, 42, 182, 0, 200, 42, 180, 0, 13, 17, 1, 84, 46, 172]
abbrev dktX10_place_0 : List UInt8 := dkwX10_place_0 ++ []
theorem dksX10_place_0 : cX10_place.data.toList.drop 0 = dktX10_place_0 := by decide +kernel
theorem dX10_place_0 : decode cX10_place 0 = .ok (.aload_n 0, 1) := dk_42 (dk_at dksX10_place_0 0 rfl rfl)
theorem dX10_place_1 : decode cX10_place 1 = .ok (.iconst 0, 1) := dk_3 (dk_at dksX10_place_0 1 rfl rfl)
theorem dX10_place_2 : decode cX10_place 2 = .ok (.putfield 108, 3) := dk_181 0 108 (dk_at dksX10_place_0 2 rfl rfl)
theorem dX10_place_5 : decode cX10_place 5 = .ok (.aload_n 0, 1) := dk_42 (dk_at dksX10_place_0 5 rfl rfl)
theorem dX10_place_6 : decode cX10_place 6 = .ok (.invokevirtual 200, 3) := dk_182 0 200 (dk_at dksX10_place_0 6 rfl rfl)
theorem dX10_place_9 : decode cX10_place 9 = .ok (.aload_n 0, 1) := dk_42 (dk_at dksX10_place_0 9 rfl rfl)
theorem dX10_place_10 : decode cX10_place 10 = .ok (.getfield 13, 3) := dk_180 0 13 (dk_at dksX10_place_0 10 rfl rfl)
theorem dX10_place_13 : decode cX10_place 13 = .ok (.sipush 340, 3) := dk_17 1 84 (dk_at dksX10_place_0 13 rfl rfl)
theorem dX10_place_16 : decode cX10_place 16 = .ok (.iaload, 1) := dk_46 (dk_at dksX10_place_0 16 rfl rfl)
theorem dX10_place_17 : decode cX10_place 17 = .ok (.ireturn, 1) := dk_172 (dk_at dksX10_place_0 17 rfl rfl)
theorem dn_X10_place : yX10_place.cls ≠ "java/lang/invoke/MethodHandle" ∧ yX10_place.cls ≠ "java/lang/invoke/VarHandle" ∧ (parseMethodDescriptor yX10_place.desc).map (fun d => d.parameters.length) = some 0 := by decide +kernel
noncomputable def M_X10_place  : TM Int32 := TM.bind (sI 0 0) (fun _ => TM.bind (M_X10_lay) (fun v1 => TM.bind (tA 14 704 340) (fun v2 => TM.pure v2)))
set_option maxHeartbeats 4000000 in
theorem ct_X10_place (G : gG) (am : Nat)  : gCtM G am yX10_place cX10_place 1 (some .int) 1 20 [.ref am] (M_X10_place) (fun x : Int32 => some (.int x)) := by
  refine gCtM.of (by decide) (Nat.le_of_ble_eq_true rfl) (fun K hn ms ms' r hG X hK hd ho => ?_)
  subst hG
  have X : gX K cX10_place 1 "BitingDoorsModel" "place" (some .int) 1 20 := X
  show V K 1 (mkM am hn ms) 0 [(0, .ref am)] []
  unfold M_X10_place at hd
  refine v_aload_n X dX10_place_0 0 0 rfl rfl ?_
  refine v_iconst (v := 0) X dX10_place_1 (by decide) ?_
  refine t_putI X hd rfl fp_X10_108 dX10_place_2 (fun ms hd => ?_)
  refine v_aload_n X dX10_place_5 0 0 rfl rfl ?_
  refine t_callV X hK hd (ct_X10_lay _ am) (lw_V q1868 q1870 qs37 q120 q1871) ⟨rfl, dn_X10_lay⟩ rfl ⟨by decide, by decide⟩ rfl (Nat.le_of_ble_eq_true rfl) dX10_place_6 (fun v1 ms hd => ?_)
  show V K 1 (mkM am hn ms) 9 [(0, .ref am)] []
  refine v_aload_n X dX10_place_9 0 0 rfl rfl ?_
  refine t_getA (j := 1) X rfl fl_X10_13 dX10_place_10 ?_
  refine v_sipush (v := 340) X dX10_place_13 (by decide) ?_
  refine t_iald (j := 1) X hd rfl dX10_place_16 (fun v2 hd => ?_)
  exact t_iret X hK hd ho dX10_place_17
def dkwX10_can_2 : List UInt8 := [28, 5, 182, 1, 26, 153, 0, 7, 7, 167, 0, 4, 3, 96, 172]
abbrev dktX10_can_2 : List UInt8 := dkwX10_can_2 ++ []
def dkwX10_can_1 : List UInt8 := [154, 0, 5, 2, 172, 4, 42, 27, 28, 4, 182, 1, 26, 153, 0, 7, 5, 167, 0, 4, 3, 96, 42, 27]
abbrev dktX10_can_1 : List UInt8 := dkwX10_can_1 ++ dktX10_can_2
def dkwX10_can_0 : List UInt8 := [42, 3, 181, 0, 108, 42, 182, 0, 200, 42, 27, 182, 1, 5, 153, 0, 12, 28, 3, 6, 184, 0, 187]
abbrev dktX10_can_0 : List UInt8 := dkwX10_can_0 ++ dktX10_can_1
theorem dksX10_can_0 : cX10_can.data.toList.drop 0 = dktX10_can_0 := by decide +kernel
theorem dksX10_can_1 : cX10_can.data.toList.drop 23 = dktX10_can_1 := dk_seg dksX10_can_0 23 rfl rfl
theorem dksX10_can_2 : cX10_can.data.toList.drop 47 = dktX10_can_2 := dk_seg dksX10_can_1 24 rfl rfl
theorem dX10_can_0 : decode cX10_can 0 = .ok (.aload_n 0, 1) := dk_42 (dk_at dksX10_can_0 0 rfl rfl)
theorem dX10_can_1 : decode cX10_can 1 = .ok (.iconst 0, 1) := dk_3 (dk_at dksX10_can_0 1 rfl rfl)
theorem dX10_can_2 : decode cX10_can 2 = .ok (.putfield 108, 3) := dk_181 0 108 (dk_at dksX10_can_0 2 rfl rfl)
theorem dX10_can_5 : decode cX10_can 5 = .ok (.aload_n 0, 1) := dk_42 (dk_at dksX10_can_0 5 rfl rfl)
theorem dX10_can_6 : decode cX10_can 6 = .ok (.invokevirtual 200, 3) := dk_182 0 200 (dk_at dksX10_can_0 6 rfl rfl)
theorem dX10_can_9 : decode cX10_can 9 = .ok (.aload_n 0, 1) := dk_42 (dk_at dksX10_can_0 9 rfl rfl)
theorem dX10_can_10 : decode cX10_can 10 = .ok (.iload_n 1, 1) := dk_27 (dk_at dksX10_can_0 10 rfl rfl)
theorem dX10_can_11 : decode cX10_can 11 = .ok (.invokevirtual 261, 3) := dk_182 1 5 (dk_at dksX10_can_0 11 rfl rfl)
theorem dX10_can_14 : decode cX10_can 14 = .ok (.ifCond .eq 12, 3) := dk_153 0 12 (dk_at dksX10_can_0 14 rfl rfl)
theorem dX10_can_17 : decode cX10_can 17 = .ok (.iload_n 2, 1) := dk_28 (dk_at dksX10_can_0 17 rfl rfl)
theorem dX10_can_18 : decode cX10_can 18 = .ok (.iconst 0, 1) := dk_3 (dk_at dksX10_can_0 18 rfl rfl)
theorem dX10_can_19 : decode cX10_can 19 = .ok (.iconst 3, 1) := dk_6 (dk_at dksX10_can_0 19 rfl rfl)
theorem dX10_can_20 : decode cX10_can 20 = .ok (.invokestatic 187, 3) := dk_184 0 187 (dk_at dksX10_can_0 20 rfl rfl)
theorem dX10_can_23 : decode cX10_can 23 = .ok (.ifCond .ne 5, 3) := dk_154 0 5 (dk_at dksX10_can_1 0 rfl rfl)
theorem dX10_can_26 : decode cX10_can 26 = .ok (.iconst (-1), 1) := dk_2 (dk_at dksX10_can_1 3 rfl rfl)
theorem dX10_can_27 : decode cX10_can 27 = .ok (.ireturn, 1) := dk_172 (dk_at dksX10_can_1 4 rfl rfl)
theorem dX10_can_28 : decode cX10_can 28 = .ok (.iconst 1, 1) := dk_4 (dk_at dksX10_can_1 5 rfl rfl)
theorem dX10_can_29 : decode cX10_can 29 = .ok (.aload_n 0, 1) := dk_42 (dk_at dksX10_can_1 6 rfl rfl)
theorem dX10_can_30 : decode cX10_can 30 = .ok (.iload_n 1, 1) := dk_27 (dk_at dksX10_can_1 7 rfl rfl)
theorem dX10_can_31 : decode cX10_can 31 = .ok (.iload_n 2, 1) := dk_28 (dk_at dksX10_can_1 8 rfl rfl)
theorem dX10_can_32 : decode cX10_can 32 = .ok (.iconst 1, 1) := dk_4 (dk_at dksX10_can_1 9 rfl rfl)
theorem dX10_can_33 : decode cX10_can 33 = .ok (.invokevirtual 282, 3) := dk_182 1 26 (dk_at dksX10_can_1 10 rfl rfl)
theorem dX10_can_36 : decode cX10_can 36 = .ok (.ifCond .eq 7, 3) := dk_153 0 7 (dk_at dksX10_can_1 13 rfl rfl)
theorem dX10_can_39 : decode cX10_can 39 = .ok (.iconst 2, 1) := dk_5 (dk_at dksX10_can_1 16 rfl rfl)
theorem dX10_can_40 : decode cX10_can 40 = .ok (.goto 4, 3) := dk_167 0 4 (dk_at dksX10_can_1 17 rfl rfl)
theorem dX10_can_43 : decode cX10_can 43 = .ok (.iconst 0, 1) := dk_3 (dk_at dksX10_can_1 20 rfl rfl)
theorem dX10_can_44 : decode cX10_can 44 = .ok (.iadd, 1) := dk_96 (dk_at dksX10_can_1 21 rfl rfl)
theorem dX10_can_45 : decode cX10_can 45 = .ok (.aload_n 0, 1) := dk_42 (dk_at dksX10_can_1 22 rfl rfl)
theorem dX10_can_46 : decode cX10_can 46 = .ok (.iload_n 1, 1) := dk_27 (dk_at dksX10_can_1 23 rfl rfl)
theorem dX10_can_47 : decode cX10_can 47 = .ok (.iload_n 2, 1) := dk_28 (dk_at dksX10_can_2 0 rfl rfl)
theorem dX10_can_48 : decode cX10_can 48 = .ok (.iconst 2, 1) := dk_5 (dk_at dksX10_can_2 1 rfl rfl)
theorem dX10_can_49 : decode cX10_can 49 = .ok (.invokevirtual 282, 3) := dk_182 1 26 (dk_at dksX10_can_2 2 rfl rfl)
theorem dX10_can_52 : decode cX10_can 52 = .ok (.ifCond .eq 7, 3) := dk_153 0 7 (dk_at dksX10_can_2 5 rfl rfl)
theorem dX10_can_55 : decode cX10_can 55 = .ok (.iconst 4, 1) := dk_7 (dk_at dksX10_can_2 8 rfl rfl)
theorem dX10_can_56 : decode cX10_can 56 = .ok (.goto 4, 3) := dk_167 0 4 (dk_at dksX10_can_2 9 rfl rfl)
theorem dX10_can_59 : decode cX10_can 59 = .ok (.iconst 0, 1) := dk_3 (dk_at dksX10_can_2 12 rfl rfl)
theorem dX10_can_60 : decode cX10_can 60 = .ok (.iadd, 1) := dk_96 (dk_at dksX10_can_2 13 rfl rfl)
theorem dX10_can_61 : decode cX10_can 61 = .ok (.ireturn, 1) := dk_172 (dk_at dksX10_can_2 14 rfl rfl)
theorem dn_X10_can : yX10_can.cls ≠ "java/lang/invoke/MethodHandle" ∧ yX10_can.cls ≠ "java/lang/invoke/VarHandle" ∧ (parseMethodDescriptor yX10_can.desc).map (fun d => d.parameters.length) = some 2 := by decide +kernel
noncomputable def M_X10_can (p1 : Int32) (p2 : Int32) : TM Int32 := TM.bind (sI 0 0) (fun _ => TM.bind (M_X10_lay) (fun v1 => TM.bind (M_X10_isDoor p1) (fun v2 => cond v2 (TM.bind (M_X10_isIn p2 0 3) (fun v3 => cond v3 (TM.bind (M_X10_canBe p1 p2 1) (fun v4 => TM.bind ((cond v4 (TM.pure 2) (TM.pure 0) : TM (Int32))) (fun u5 => TM.bind (M_X10_canBe p1 p2 2) (fun v6 => TM.bind ((cond v6 (TM.pure 4) (TM.pure 0) : TM (Int32))) (fun u7 => TM.pure ((1 + u5) + u7)))))) (TM.pure (-1)))) (TM.pure (-1)))))
set_option maxHeartbeats 4000000 in
theorem ct_X10_can (G : gG) (am : Nat) (p1 : Int32) (p2 : Int32) : gCtM G am yX10_can cX10_can 3 (some .int) 3 79 [.ref am, .int p1, .int p2] (M_X10_can p1 p2) (fun x : Int32 => some (.int x)) := by
  refine gCtM.of (by decide) (Nat.le_of_ble_eq_true rfl) (fun K hn ms ms' r hG X hK hd ho => ?_)
  subst hG
  have X : gX K cX10_can 3 "BitingDoorsModel" "can" (some .int) 3 79 := X
  show V K 3 (mkM am hn ms) 0 [(0, .ref am), (1, .int p1), (2, .int p2)] []
  unfold M_X10_can at hd
  refine v_aload_n X dX10_can_0 0 0 rfl rfl ?_
  refine v_iconst (v := 0) X dX10_can_1 (by decide) ?_
  refine t_putI X hd rfl fp_X10_108 dX10_can_2 (fun ms hd => ?_)
  refine v_aload_n X dX10_can_5 0 0 rfl rfl ?_
  refine t_callV X hK hd (ct_X10_lay _ am) (lw_V q1868 q1870 qs37 q120 q1871) ⟨rfl, dn_X10_lay⟩ rfl ⟨by decide, by decide⟩ rfl (Nat.le_of_ble_eq_true rfl) dX10_can_6 (fun v1 ms hd => ?_)
  show V K 3 (mkM am hn ms) 9 [(0, .ref am), (1, .int p1), (2, .int p2)] []
  refine v_aload_n X dX10_can_9 0 0 rfl rfl ?_
  refine v_iload_n X dX10_can_10 1 1 rfl rfl ?_
  refine t_callV X hK hd (ct_X10_isDoor _ am p1) (lw_V q1982 q1984 qs56 q120 q1985) ⟨rfl, dn_X10_isDoor⟩ rfl ⟨by decide, by decide⟩ rfl (Nat.le_of_ble_eq_true rfl) dX10_can_11 (fun v2 ms hd => ?_)
  show V K 3 (mkM am hn ms) 14 [(0, .ref am), (1, .int p1), (2, .int p2)] [.int (b2i v2)]
  refine v_ifZ_eq (tgt := 26) X dX10_can_14 (by decide) (fun q => ?_) (fun q => ?_)
  · have hd := Tcnd_f q hd
    refine v_iconst (v := (-1)) X dX10_can_26 (by decide) ?_
    exact t_iret X hK hd ho dX10_can_27
  · have hd := Tcnd_t q hd
    refine v_iload_n X dX10_can_17 2 2 rfl rfl ?_
    refine v_iconst (v := 0) X dX10_can_18 (by decide) ?_
    refine v_iconst (v := 3) X dX10_can_19 (by decide) ?_
    refine t_callS X hK hd (ct_X10_isIn _ am p2 0 3) (lw_S q1940 q1941 q120 q1942) dn_X10_isIn rfl ⟨by decide, by decide⟩ rfl (Nat.le_of_ble_eq_true rfl) dX10_can_20 (fun v3 ms hd => ?_)
    show V K 3 (mkM am hn ms) 23 [(0, .ref am), (1, .int p1), (2, .int p2)] [.int (b2i v3)]
    refine v_ifZ_ne (tgt := 28) X dX10_can_23 (by decide) (fun q => ?_) (fun q => ?_)
    · have hd := Tcnd_t q hd
      refine v_iconst (v := 1) X dX10_can_28 (by decide) ?_
      refine v_aload_n X dX10_can_29 0 0 rfl rfl ?_
      refine v_iload_n X dX10_can_30 1 1 rfl rfl ?_
      refine v_iload_n X dX10_can_31 2 2 rfl rfl ?_
      refine v_iconst (v := 1) X dX10_can_32 (by decide) ?_
      refine t_callV X hK hd (ct_X10_canBe _ am p1 p2 1) (lw_V q2014 q2016 qs62 q120 q2017) ⟨rfl, dn_X10_canBe⟩ rfl ⟨by decide, by decide⟩ rfl (Nat.le_of_ble_eq_true rfl) dX10_can_33 (fun v4 ms hd => ?_)
      show V K 3 (mkM am hn ms) 36 [(0, .ref am), (1, .int p1), (2, .int p2)] [.int (b2i v4), .int 1]
      obtain ⟨u5, m1, hd, hd2⟩ := TM.bind_some hd
      have KJ : V K 3 (mkM am hn m1) 44 [(0, .ref am), (1, .int p1), (2, .int p2)] [.int u5, .int 1] := by
        clear hd
        have hd := hd2
        refine v_iadd X dX10_can_44 ?_
        refine v_aload_n X dX10_can_45 0 0 rfl rfl ?_
        refine v_iload_n X dX10_can_46 1 1 rfl rfl ?_
        refine v_iload_n X dX10_can_47 2 2 rfl rfl ?_
        refine v_iconst (v := 2) X dX10_can_48 (by decide) ?_
        refine t_callV X hK hd (ct_X10_canBe _ am p1 p2 2) (lw_V q2014 q2016 qs62 q120 q2017) ⟨rfl, dn_X10_canBe⟩ rfl ⟨by decide, by decide⟩ rfl (Nat.le_of_ble_eq_true rfl) dX10_can_49 (fun v6 ms hd => ?_)
        show V K 3 (mkM am hn ms) 52 [(0, .ref am), (1, .int p1), (2, .int p2)] [.int (b2i v6), .int (1 + u5)]
        obtain ⟨u7, m1, hd, hd2⟩ := TM.bind_some hd
        have KJ : V K 3 (mkM am hn m1) 60 [] [.int u7, .int (1 + u5)] := by
          clear hd
          have hd := hd2
          refine v_iadd X dX10_can_60 ?_
          exact t_iret X hK hd ho dX10_can_61
        clear hd2
        refine v_ifZ_eq (tgt := 59) X dX10_can_52 (by decide) (fun q => ?_) (fun q => ?_)
        · have hd := Tcnd_f q hd
          refine v_iconst (v := 0) X dX10_can_59 (by decide) ?_
          exact v_loc [] rfl (t_at (P := fun (u7 : Int32) m => V K 3 (mkM am hn m) 60 [] [.int u7, .int (1 + u5)]) hd KJ)
        · have hd := Tcnd_t q hd
          refine v_iconst (v := 4) X dX10_can_55 (by decide) ?_
          refine v_goto (tgt := 60) X dX10_can_56 (by decide) ?_
          exact v_loc [] rfl (t_at (P := fun (u7 : Int32) m => V K 3 (mkM am hn m) 60 [] [.int u7, .int (1 + u5)]) hd KJ)
      clear hd2
      refine v_ifZ_eq (tgt := 43) X dX10_can_36 (by decide) (fun q => ?_) (fun q => ?_)
      · have hd := Tcnd_f q hd
        refine v_iconst (v := 0) X dX10_can_43 (by decide) ?_
        exact v_loc [0, 1, 2] rfl (t_at (P := fun (u5 : Int32) m => V K 3 (mkM am hn m) 44 [(0, .ref am), (1, .int p1), (2, .int p2)] [.int u5, .int 1]) hd KJ)
      · have hd := Tcnd_t q hd
        refine v_iconst (v := 2) X dX10_can_39 (by decide) ?_
        refine v_goto (tgt := 44) X dX10_can_40 (by decide) ?_
        exact v_loc [0, 1, 2] rfl (t_at (P := fun (u5 : Int32) m => V K 3 (mkM am hn m) 44 [(0, .ref am), (1, .int p1), (2, .int p2)] [.int u5, .int 1]) hd KJ)
    · have hd := Tcnd_f q hd
      refine v_iconst (v := (-1)) X dX10_can_26 (by decide) ?_
      exact t_iret X hK hd ho dX10_can_27
def dkwX10_fit_1 : List UInt8 := [154, 0, 5, 2, 172, 42, 27, 28, 182, 1, 29, 153, 0, 7, 4, 167, 0, 4, 3, 172]
abbrev dktX10_fit_1 : List UInt8 := dkwX10_fit_1 ++ []
def dkwX10_fit_0 : List UInt8 := [42, 3, 181, 0, 108, 42, 182, 0, 200, 42, 27, 182, 1, 5, 153, 0, 12, 28, 3, 6, 184, 0, 187]
abbrev dktX10_fit_0 : List UInt8 := dkwX10_fit_0 ++ dktX10_fit_1
theorem dksX10_fit_0 : cX10_fit.data.toList.drop 0 = dktX10_fit_0 := by decide +kernel
theorem dksX10_fit_1 : cX10_fit.data.toList.drop 23 = dktX10_fit_1 := dk_seg dksX10_fit_0 23 rfl rfl
theorem dX10_fit_0 : decode cX10_fit 0 = .ok (.aload_n 0, 1) := dk_42 (dk_at dksX10_fit_0 0 rfl rfl)
theorem dX10_fit_1 : decode cX10_fit 1 = .ok (.iconst 0, 1) := dk_3 (dk_at dksX10_fit_0 1 rfl rfl)
theorem dX10_fit_2 : decode cX10_fit 2 = .ok (.putfield 108, 3) := dk_181 0 108 (dk_at dksX10_fit_0 2 rfl rfl)
theorem dX10_fit_5 : decode cX10_fit 5 = .ok (.aload_n 0, 1) := dk_42 (dk_at dksX10_fit_0 5 rfl rfl)
theorem dX10_fit_6 : decode cX10_fit 6 = .ok (.invokevirtual 200, 3) := dk_182 0 200 (dk_at dksX10_fit_0 6 rfl rfl)
theorem dX10_fit_9 : decode cX10_fit 9 = .ok (.aload_n 0, 1) := dk_42 (dk_at dksX10_fit_0 9 rfl rfl)
theorem dX10_fit_10 : decode cX10_fit 10 = .ok (.iload_n 1, 1) := dk_27 (dk_at dksX10_fit_0 10 rfl rfl)
theorem dX10_fit_11 : decode cX10_fit 11 = .ok (.invokevirtual 261, 3) := dk_182 1 5 (dk_at dksX10_fit_0 11 rfl rfl)
theorem dX10_fit_14 : decode cX10_fit 14 = .ok (.ifCond .eq 12, 3) := dk_153 0 12 (dk_at dksX10_fit_0 14 rfl rfl)
theorem dX10_fit_17 : decode cX10_fit 17 = .ok (.iload_n 2, 1) := dk_28 (dk_at dksX10_fit_0 17 rfl rfl)
theorem dX10_fit_18 : decode cX10_fit 18 = .ok (.iconst 0, 1) := dk_3 (dk_at dksX10_fit_0 18 rfl rfl)
theorem dX10_fit_19 : decode cX10_fit 19 = .ok (.iconst 3, 1) := dk_6 (dk_at dksX10_fit_0 19 rfl rfl)
theorem dX10_fit_20 : decode cX10_fit 20 = .ok (.invokestatic 187, 3) := dk_184 0 187 (dk_at dksX10_fit_0 20 rfl rfl)
theorem dX10_fit_23 : decode cX10_fit 23 = .ok (.ifCond .ne 5, 3) := dk_154 0 5 (dk_at dksX10_fit_1 0 rfl rfl)
theorem dX10_fit_26 : decode cX10_fit 26 = .ok (.iconst (-1), 1) := dk_2 (dk_at dksX10_fit_1 3 rfl rfl)
theorem dX10_fit_27 : decode cX10_fit 27 = .ok (.ireturn, 1) := dk_172 (dk_at dksX10_fit_1 4 rfl rfl)
theorem dX10_fit_28 : decode cX10_fit 28 = .ok (.aload_n 0, 1) := dk_42 (dk_at dksX10_fit_1 5 rfl rfl)
theorem dX10_fit_29 : decode cX10_fit 29 = .ok (.iload_n 1, 1) := dk_27 (dk_at dksX10_fit_1 6 rfl rfl)
theorem dX10_fit_30 : decode cX10_fit 30 = .ok (.iload_n 2, 1) := dk_28 (dk_at dksX10_fit_1 7 rfl rfl)
theorem dX10_fit_31 : decode cX10_fit 31 = .ok (.invokevirtual 285, 3) := dk_182 1 29 (dk_at dksX10_fit_1 8 rfl rfl)
theorem dX10_fit_34 : decode cX10_fit 34 = .ok (.ifCond .eq 7, 3) := dk_153 0 7 (dk_at dksX10_fit_1 11 rfl rfl)
theorem dX10_fit_37 : decode cX10_fit 37 = .ok (.iconst 1, 1) := dk_4 (dk_at dksX10_fit_1 14 rfl rfl)
theorem dX10_fit_38 : decode cX10_fit 38 = .ok (.goto 4, 3) := dk_167 0 4 (dk_at dksX10_fit_1 15 rfl rfl)
theorem dX10_fit_41 : decode cX10_fit 41 = .ok (.iconst 0, 1) := dk_3 (dk_at dksX10_fit_1 18 rfl rfl)
theorem dX10_fit_42 : decode cX10_fit 42 = .ok (.ireturn, 1) := dk_172 (dk_at dksX10_fit_1 19 rfl rfl)
theorem dn_X10_fit : yX10_fit.cls ≠ "java/lang/invoke/MethodHandle" ∧ yX10_fit.cls ≠ "java/lang/invoke/VarHandle" ∧ (parseMethodDescriptor yX10_fit.desc).map (fun d => d.parameters.length) = some 2 := by decide +kernel
noncomputable def M_X10_fit (p1 : Int32) (p2 : Int32) : TM Int32 := TM.bind (sI 0 0) (fun _ => TM.bind (M_X10_lay) (fun v1 => TM.bind (M_X10_isDoor p1) (fun v2 => cond v2 (TM.bind (M_X10_isIn p2 0 3) (fun v3 => cond v3 (TM.bind (M_X10_isFit p1 p2) (fun v4 => TM.bind ((cond v4 (TM.pure true) (TM.pure false) : TM (Bool))) (fun u5 => TM.pure (b2i u5)))) (TM.pure (-1)))) (TM.pure (-1)))))
set_option maxHeartbeats 4000000 in
theorem ct_X10_fit (G : gG) (am : Nat) (p1 : Int32) (p2 : Int32) : gCtM G am yX10_fit cX10_fit 3 (some .int) 4 101 [.ref am, .int p1, .int p2] (M_X10_fit p1 p2) (fun x : Int32 => some (.int x)) := by
  refine gCtM.of (by decide) (Nat.le_of_ble_eq_true rfl) (fun K hn ms ms' r hG X hK hd ho => ?_)
  subst hG
  have X : gX K cX10_fit 3 "BitingDoorsModel" "fit" (some .int) 4 101 := X
  show V K 3 (mkM am hn ms) 0 [(0, .ref am), (1, .int p1), (2, .int p2)] []
  unfold M_X10_fit at hd
  refine v_aload_n X dX10_fit_0 0 0 rfl rfl ?_
  refine v_iconst (v := 0) X dX10_fit_1 (by decide) ?_
  refine t_putI X hd rfl fp_X10_108 dX10_fit_2 (fun ms hd => ?_)
  refine v_aload_n X dX10_fit_5 0 0 rfl rfl ?_
  refine t_callV X hK hd (ct_X10_lay _ am) (lw_V q1868 q1870 qs37 q120 q1871) ⟨rfl, dn_X10_lay⟩ rfl ⟨by decide, by decide⟩ rfl (Nat.le_of_ble_eq_true rfl) dX10_fit_6 (fun v1 ms hd => ?_)
  show V K 3 (mkM am hn ms) 9 [(0, .ref am), (1, .int p1), (2, .int p2)] []
  refine v_aload_n X dX10_fit_9 0 0 rfl rfl ?_
  refine v_iload_n X dX10_fit_10 1 1 rfl rfl ?_
  refine t_callV X hK hd (ct_X10_isDoor _ am p1) (lw_V q1982 q1984 qs56 q120 q1985) ⟨rfl, dn_X10_isDoor⟩ rfl ⟨by decide, by decide⟩ rfl (Nat.le_of_ble_eq_true rfl) dX10_fit_11 (fun v2 ms hd => ?_)
  show V K 3 (mkM am hn ms) 14 [(0, .ref am), (1, .int p1), (2, .int p2)] [.int (b2i v2)]
  refine v_ifZ_eq (tgt := 26) X dX10_fit_14 (by decide) (fun q => ?_) (fun q => ?_)
  · have hd := Tcnd_f q hd
    refine v_iconst (v := (-1)) X dX10_fit_26 (by decide) ?_
    exact t_iret X hK hd ho dX10_fit_27
  · have hd := Tcnd_t q hd
    refine v_iload_n X dX10_fit_17 2 2 rfl rfl ?_
    refine v_iconst (v := 0) X dX10_fit_18 (by decide) ?_
    refine v_iconst (v := 3) X dX10_fit_19 (by decide) ?_
    refine t_callS X hK hd (ct_X10_isIn _ am p2 0 3) (lw_S q1940 q1941 q120 q1942) dn_X10_isIn rfl ⟨by decide, by decide⟩ rfl (Nat.le_of_ble_eq_true rfl) dX10_fit_20 (fun v3 ms hd => ?_)
    show V K 3 (mkM am hn ms) 23 [(0, .ref am), (1, .int p1), (2, .int p2)] [.int (b2i v3)]
    refine v_ifZ_ne (tgt := 28) X dX10_fit_23 (by decide) (fun q => ?_) (fun q => ?_)
    · have hd := Tcnd_t q hd
      refine v_aload_n X dX10_fit_28 0 0 rfl rfl ?_
      refine v_iload_n X dX10_fit_29 1 1 rfl rfl ?_
      refine v_iload_n X dX10_fit_30 2 2 rfl rfl ?_
      refine t_callV X hK hd (ct_X10_isFit _ am p1 p2) (lw_V q2022 q2024 qs63 q120 q2025) ⟨rfl, dn_X10_isFit⟩ rfl ⟨by decide, by decide⟩ rfl (Nat.le_of_ble_eq_true rfl) dX10_fit_31 (fun v4 ms hd => ?_)
      show V K 3 (mkM am hn ms) 34 [(0, .ref am), (1, .int p1), (2, .int p2)] [.int (b2i v4)]
      obtain ⟨u5, m1, hd, hd2⟩ := TM.bind_some hd
      have KJ : V K 3 (mkM am hn m1) 42 [] [.int (b2i u5)] := by
        clear hd
        have hd := hd2
        exact t_iret X hK hd ho dX10_fit_42
      clear hd2
      refine v_ifZ_eq (tgt := 41) X dX10_fit_34 (by decide) (fun q => ?_) (fun q => ?_)
      · have hd := Tcnd_f q hd
        refine v_iconst (v := 0) X dX10_fit_41 (by decide) ?_
        exact v_loc [] rfl (t_at (P := fun (u5 : Bool) m => V K 3 (mkM am hn m) 42 [] [.int (b2i u5)]) hd KJ)
      · have hd := Tcnd_t q hd
        refine v_iconst (v := 1) X dX10_fit_37 (by decide) ?_
        refine v_goto (tgt := 42) X dX10_fit_38 (by decide) ?_
        exact v_loc [] rfl (t_at (P := fun (u5 : Bool) m => V K 3 (mkM am hn m) 42 [] [.int (b2i u5)]) hd KJ)
    · have hd := Tcnd_f q hd
      refine v_iconst (v := (-1)) X dX10_fit_26 (by decide) ?_
      exact t_iret X hK hd ho dX10_fit_27
theorem dX10_thrown_0 : decode cX10_thrown 0 = .ok (.aload_n 0, 1) := by decide +kernel
theorem dX10_thrown_1 : decode cX10_thrown 1 = .ok (.getfield 108, 3) := by decide +kernel
theorem dX10_thrown_4 : decode cX10_thrown 4 = .ok (.ireturn, 1) := by decide +kernel
theorem fl_X10_108 : gFl "BitingDoorsModel" 108 [8] 0 := by
  intro args s hts hN ci hc
  simp only [List.mem_cons, List.not_mem_nil, or_false] at hc
  subst hc
  exact ⟨RX10, TX10, 64, "BitingDoorsModel", gCl_X10, in_X10, by decide, Or.inl (hts _ q1650), fun _ h => h⟩
theorem dn_X10_thrown : yX10_thrown.cls ≠ "java/lang/invoke/MethodHandle" ∧ yX10_thrown.cls ≠ "java/lang/invoke/VarHandle" ∧ (parseMethodDescriptor yX10_thrown.desc).map (fun d => d.parameters.length) = some 0 := by decide +kernel
noncomputable def M_X10_thrown  : TM Int32 := TM.bind (tI 0) (fun v1 => TM.pure v1)
set_option maxHeartbeats 4000000 in
theorem ct_X10_thrown (G : gG) (am : Nat)  : gCtM G am yX10_thrown cX10_thrown 1 (some .int) 0 0 [.ref am] (M_X10_thrown) (fun x : Int32 => some (.int x)) := by
  refine gCtM.of (by decide) (Nat.le_of_ble_eq_true rfl) (fun K hn ms ms' r hG X hK hd ho => ?_)
  subst hG
  have X : gX K cX10_thrown 1 "BitingDoorsModel" "thrown" (some .int) 0 0 := X
  show V K 1 (mkM am hn ms) 0 [(0, .ref am)] []
  unfold M_X10_thrown at hd
  refine v_aload_n X dX10_thrown_0 0 0 rfl rfl ?_
  refine t_getI X hd rfl fl_X10_108 dX10_thrown_1 (fun v1 hd => ?_)
  exact t_iret X hK hd ho dX10_thrown_4
def dkwX10_stride_2 : List UInt8 := [7, 46, 182, 1, 170, 172]
abbrev dktX10_stride_2 : List UInt8 := dkwX10_stride_2 ++ []
def dkwX10_stride_1 : List UInt8 := [17, 1, 84, 46, 2, 159, 0, 11, 42, 182, 0, 211, 8, 164, 0, 6, 16, 254, 172, 42, 42, 180, 0, 13]
abbrev dktX10_stride_1 : List UInt8 := dkwX10_stride_1 ++ dktX10_stride_2
def dkwX10_stride_0 : List UInt8 := [42, 3, 181, 0, 108, 42, 182, 0, 200, 42, 180, 0, 13, 7, 46, 2, 159, 0, 23, 42, 180, 0, 13]
abbrev dktX10_stride_0 : List UInt8 := dkwX10_stride_0 ++ dktX10_stride_1
theorem dksX10_stride_0 : cX10_stride.data.toList.drop 0 = dktX10_stride_0 := by decide +kernel
theorem dksX10_stride_1 : cX10_stride.data.toList.drop 23 = dktX10_stride_1 := dk_seg dksX10_stride_0 23 rfl rfl
theorem dksX10_stride_2 : cX10_stride.data.toList.drop 47 = dktX10_stride_2 := dk_seg dksX10_stride_1 24 rfl rfl
theorem dX10_stride_0 : decode cX10_stride 0 = .ok (.aload_n 0, 1) := dk_42 (dk_at dksX10_stride_0 0 rfl rfl)
theorem dX10_stride_1 : decode cX10_stride 1 = .ok (.iconst 0, 1) := dk_3 (dk_at dksX10_stride_0 1 rfl rfl)
theorem dX10_stride_2 : decode cX10_stride 2 = .ok (.putfield 108, 3) := dk_181 0 108 (dk_at dksX10_stride_0 2 rfl rfl)
theorem dX10_stride_5 : decode cX10_stride 5 = .ok (.aload_n 0, 1) := dk_42 (dk_at dksX10_stride_0 5 rfl rfl)
theorem dX10_stride_6 : decode cX10_stride 6 = .ok (.invokevirtual 200, 3) := dk_182 0 200 (dk_at dksX10_stride_0 6 rfl rfl)
theorem dX10_stride_9 : decode cX10_stride 9 = .ok (.aload_n 0, 1) := dk_42 (dk_at dksX10_stride_0 9 rfl rfl)
theorem dX10_stride_10 : decode cX10_stride 10 = .ok (.getfield 13, 3) := dk_180 0 13 (dk_at dksX10_stride_0 10 rfl rfl)
theorem dX10_stride_13 : decode cX10_stride 13 = .ok (.iconst 4, 1) := dk_7 (dk_at dksX10_stride_0 13 rfl rfl)
theorem dX10_stride_14 : decode cX10_stride 14 = .ok (.iaload, 1) := dk_46 (dk_at dksX10_stride_0 14 rfl rfl)
theorem dX10_stride_15 : decode cX10_stride 15 = .ok (.iconst (-1), 1) := dk_2 (dk_at dksX10_stride_0 15 rfl rfl)
theorem dX10_stride_16 : decode cX10_stride 16 = .ok (.if_icmp .eq 23, 3) := dk_159 0 23 (dk_at dksX10_stride_0 16 rfl rfl)
theorem dX10_stride_19 : decode cX10_stride 19 = .ok (.aload_n 0, 1) := dk_42 (dk_at dksX10_stride_0 19 rfl rfl)
theorem dX10_stride_20 : decode cX10_stride 20 = .ok (.getfield 13, 3) := dk_180 0 13 (dk_at dksX10_stride_0 20 rfl rfl)
theorem dX10_stride_23 : decode cX10_stride 23 = .ok (.sipush 340, 3) := dk_17 1 84 (dk_at dksX10_stride_1 0 rfl rfl)
theorem dX10_stride_26 : decode cX10_stride 26 = .ok (.iaload, 1) := dk_46 (dk_at dksX10_stride_1 3 rfl rfl)
theorem dX10_stride_27 : decode cX10_stride 27 = .ok (.iconst (-1), 1) := dk_2 (dk_at dksX10_stride_1 4 rfl rfl)
theorem dX10_stride_28 : decode cX10_stride 28 = .ok (.if_icmp .eq 11, 3) := dk_159 0 11 (dk_at dksX10_stride_1 5 rfl rfl)
theorem dX10_stride_31 : decode cX10_stride 31 = .ok (.aload_n 0, 1) := dk_42 (dk_at dksX10_stride_1 8 rfl rfl)
theorem dX10_stride_32 : decode cX10_stride 32 = .ok (.invokevirtual 211, 3) := dk_182 0 211 (dk_at dksX10_stride_1 9 rfl rfl)
theorem dX10_stride_35 : decode cX10_stride 35 = .ok (.iconst 5, 1) := dk_8 (dk_at dksX10_stride_1 12 rfl rfl)
theorem dX10_stride_36 : decode cX10_stride 36 = .ok (.if_icmp .le 6, 3) := dk_164 0 6 (dk_at dksX10_stride_1 13 rfl rfl)
theorem dX10_stride_39 : decode cX10_stride 39 = .ok (.bipush (-2), 2) := dk_16 254 (dk_at dksX10_stride_1 16 rfl rfl)
theorem dX10_stride_41 : decode cX10_stride 41 = .ok (.ireturn, 1) := dk_172 (dk_at dksX10_stride_1 18 rfl rfl)
theorem dX10_stride_42 : decode cX10_stride 42 = .ok (.aload_n 0, 1) := dk_42 (dk_at dksX10_stride_1 19 rfl rfl)
theorem dX10_stride_43 : decode cX10_stride 43 = .ok (.aload_n 0, 1) := dk_42 (dk_at dksX10_stride_1 20 rfl rfl)
theorem dX10_stride_44 : decode cX10_stride 44 = .ok (.getfield 13, 3) := dk_180 0 13 (dk_at dksX10_stride_1 21 rfl rfl)
theorem dX10_stride_47 : decode cX10_stride 47 = .ok (.iconst 4, 1) := dk_7 (dk_at dksX10_stride_2 0 rfl rfl)
theorem dX10_stride_48 : decode cX10_stride 48 = .ok (.iaload, 1) := dk_46 (dk_at dksX10_stride_2 1 rfl rfl)
theorem dX10_stride_49 : decode cX10_stride 49 = .ok (.invokevirtual 426, 3) := dk_182 1 170 (dk_at dksX10_stride_2 2 rfl rfl)
theorem dX10_stride_52 : decode cX10_stride 52 = .ok (.ireturn, 1) := dk_172 (dk_at dksX10_stride_2 5 rfl rfl)
theorem dn_X10_stride : yX10_stride.cls ≠ "java/lang/invoke/MethodHandle" ∧ yX10_stride.cls ≠ "java/lang/invoke/VarHandle" ∧ (parseMethodDescriptor yX10_stride.desc).map (fun d => d.parameters.length) = some 0 := by decide +kernel
noncomputable def M_X10_stride  : TM Int32 := TM.bind (sI 0 0) (fun _ => TM.bind (M_X10_lay) (fun v1 => TM.bind (tA 14 704 4) (fun v2 => if v2 = (-1) then TM.pure (-2) else TM.bind (tA 14 704 340) (fun v3 => if v3 = (-1) then TM.pure (-2) else TM.bind (M_X10_doors) (fun v4 => if v4 ≤ 5 then TM.bind (tA 14 704 4) (fun v5 => TM.bind (M_X10_findWay v5) (fun v6 => TM.pure v6)) else TM.pure (-2))))))
set_option maxHeartbeats 4000000 in
theorem ct_X10_stride (G : gG) (am : Nat)  : gCtM G am yX10_stride cX10_stride 1 (some .int) 8 201 [.ref am] (M_X10_stride) (fun x : Int32 => some (.int x)) := by
  refine gCtM.of (by decide) (Nat.le_of_ble_eq_true rfl) (fun K hn ms ms' r hG X hK hd ho => ?_)
  subst hG
  have X : gX K cX10_stride 1 "BitingDoorsModel" "stride" (some .int) 8 201 := X
  show V K 1 (mkM am hn ms) 0 [(0, .ref am)] []
  unfold M_X10_stride at hd
  refine v_aload_n X dX10_stride_0 0 0 rfl rfl ?_
  refine v_iconst (v := 0) X dX10_stride_1 (by decide) ?_
  refine t_putI X hd rfl fp_X10_108 dX10_stride_2 (fun ms hd => ?_)
  refine v_aload_n X dX10_stride_5 0 0 rfl rfl ?_
  refine t_callV X hK hd (ct_X10_lay _ am) (lw_V q1868 q1870 qs37 q120 q1871) ⟨rfl, dn_X10_lay⟩ rfl ⟨by decide, by decide⟩ rfl (Nat.le_of_ble_eq_true rfl) dX10_stride_6 (fun v1 ms hd => ?_)
  show V K 1 (mkM am hn ms) 9 [(0, .ref am)] []
  refine v_aload_n X dX10_stride_9 0 0 rfl rfl ?_
  refine t_getA (j := 1) X rfl fl_X10_13 dX10_stride_10 ?_
  refine v_iconst (v := 4) X dX10_stride_13 (by decide) ?_
  refine t_iald (j := 1) X hd rfl dX10_stride_14 (fun v2 hd => ?_)
  refine v_iconst (v := (-1)) X dX10_stride_15 (by decide) ?_
  refine v_icmp_eq (tgt := 39) X dX10_stride_16 (by decide) (fun q => ?_) (fun q => ?_)
  · have hd := Tite_t q hd
    refine v_bipush (v := (-2)) X dX10_stride_39 (by decide) ?_
    exact t_iret X hK hd ho dX10_stride_41
  · have hd := Tite_f q hd
    refine v_aload_n X dX10_stride_19 0 0 rfl rfl ?_
    refine t_getA (j := 1) X rfl fl_X10_13 dX10_stride_20 ?_
    refine v_sipush (v := 340) X dX10_stride_23 (by decide) ?_
    refine t_iald (j := 1) X hd rfl dX10_stride_26 (fun v3 hd => ?_)
    refine v_iconst (v := (-1)) X dX10_stride_27 (by decide) ?_
    refine v_icmp_eq (tgt := 39) X dX10_stride_28 (by decide) (fun q => ?_) (fun q => ?_)
    · have hd := Tite_t q hd
      refine v_bipush (v := (-2)) X dX10_stride_39 (by decide) ?_
      exact t_iret X hK hd ho dX10_stride_41
    · have hd := Tite_f q hd
      refine v_aload_n X dX10_stride_31 0 0 rfl rfl ?_
      refine t_callV X hK hd (ct_X10_doors _ am) (lw_V q1986 q1988 qs57 q120 q1989) ⟨rfl, dn_X10_doors⟩ rfl ⟨by decide, by decide⟩ rfl (Nat.le_of_ble_eq_true rfl) dX10_stride_32 (fun v4 ms hd => ?_)
      show V K 1 (mkM am hn ms) 35 [(0, .ref am)] [.int v4]
      refine v_iconst (v := 5) X dX10_stride_35 (by decide) ?_
      refine v_icmp_le (tgt := 42) X dX10_stride_36 (by decide) (fun q => ?_) (fun q => ?_)
      · have hd := Tite_t q hd
        refine v_aload_n X dX10_stride_42 0 0 rfl rfl ?_
        refine v_aload_n X dX10_stride_43 0 0 rfl rfl ?_
        refine t_getA (j := 1) X rfl fl_X10_13 dX10_stride_44 ?_
        refine v_iconst (v := 4) X dX10_stride_47 (by decide) ?_
        refine t_iald (j := 1) X hd rfl dX10_stride_48 (fun v5 hd => ?_)
        refine t_callV X hK hd (ct_X10_findWay _ am v5) (lw_V q2236 q2238 qs92 q120 q2239) ⟨rfl, dn_X10_findWay⟩ rfl ⟨by decide, by decide⟩ rfl (Nat.le_of_ble_eq_true rfl) dX10_stride_49 (fun v6 ms hd => ?_)
        show V K 1 (mkM am hn ms) 52 [(0, .ref am)] [.int v6]
        exact t_iret X hK hd ho dX10_stride_52
      · have hd := Tite_f q hd
        refine v_bipush (v := (-2)) X dX10_stride_39 (by decide) ?_
        exact t_iret X hK hd ho dX10_stride_41
def dkwX10_forced_1 : List UInt8 := [167, 0, 4, 2, 172]
abbrev dktX10_forced_1 : List UInt8 := dkwX10_forced_1 ++ []
def dkwX10_forced_0 : List UInt8 := [42, 3, 181, 0, 108, 27, 155, 0, 20, 27, 42, 180, 1, 80, 162, 0, 12, 42, 180, 0, 63, 27, 46]
abbrev dktX10_forced_0 : List UInt8 := dkwX10_forced_0 ++ dktX10_forced_1
theorem dksX10_forced_0 : cX10_forced.data.toList.drop 0 = dktX10_forced_0 := by decide +kernel
theorem dksX10_forced_1 : cX10_forced.data.toList.drop 23 = dktX10_forced_1 := dk_seg dksX10_forced_0 23 rfl rfl
theorem dX10_forced_0 : decode cX10_forced 0 = .ok (.aload_n 0, 1) := dk_42 (dk_at dksX10_forced_0 0 rfl rfl)
theorem dX10_forced_1 : decode cX10_forced 1 = .ok (.iconst 0, 1) := dk_3 (dk_at dksX10_forced_0 1 rfl rfl)
theorem dX10_forced_2 : decode cX10_forced 2 = .ok (.putfield 108, 3) := dk_181 0 108 (dk_at dksX10_forced_0 2 rfl rfl)
theorem dX10_forced_5 : decode cX10_forced 5 = .ok (.iload_n 1, 1) := dk_27 (dk_at dksX10_forced_0 5 rfl rfl)
theorem dX10_forced_6 : decode cX10_forced 6 = .ok (.ifCond .lt 20, 3) := dk_155 0 20 (dk_at dksX10_forced_0 6 rfl rfl)
theorem dX10_forced_9 : decode cX10_forced 9 = .ok (.iload_n 1, 1) := dk_27 (dk_at dksX10_forced_0 9 rfl rfl)
theorem dX10_forced_10 : decode cX10_forced 10 = .ok (.aload_n 0, 1) := dk_42 (dk_at dksX10_forced_0 10 rfl rfl)
theorem dX10_forced_11 : decode cX10_forced 11 = .ok (.getfield 336, 3) := dk_180 1 80 (dk_at dksX10_forced_0 11 rfl rfl)
theorem dX10_forced_14 : decode cX10_forced 14 = .ok (.if_icmp .ge 12, 3) := dk_162 0 12 (dk_at dksX10_forced_0 14 rfl rfl)
theorem dX10_forced_17 : decode cX10_forced 17 = .ok (.aload_n 0, 1) := dk_42 (dk_at dksX10_forced_0 17 rfl rfl)
theorem dX10_forced_18 : decode cX10_forced 18 = .ok (.getfield 63, 3) := dk_180 0 63 (dk_at dksX10_forced_0 18 rfl rfl)
theorem dX10_forced_21 : decode cX10_forced 21 = .ok (.iload_n 1, 1) := dk_27 (dk_at dksX10_forced_0 21 rfl rfl)
theorem dX10_forced_22 : decode cX10_forced 22 = .ok (.iaload, 1) := dk_46 (dk_at dksX10_forced_0 22 rfl rfl)
theorem dX10_forced_23 : decode cX10_forced 23 = .ok (.goto 4, 3) := dk_167 0 4 (dk_at dksX10_forced_1 0 rfl rfl)
theorem dX10_forced_26 : decode cX10_forced 26 = .ok (.iconst (-1), 1) := dk_2 (dk_at dksX10_forced_1 3 rfl rfl)
theorem dX10_forced_27 : decode cX10_forced 27 = .ok (.ireturn, 1) := dk_172 (dk_at dksX10_forced_1 4 rfl rfl)
theorem fl_X10_336 : gFl "BitingDoorsModel" 336 [8] 38 := by
  intro args s hts hN ci hc
  simp only [List.mem_cons, List.not_mem_nil, or_false] at hc
  subst hc
  exact ⟨RX10, TX10, 64, "BitingDoorsModel", gCl_X10, in_X10, by decide, Or.inl (hts _ q1688), fun _ h => h⟩
theorem dn_X10_forced : yX10_forced.cls ≠ "java/lang/invoke/MethodHandle" ∧ yX10_forced.cls ≠ "java/lang/invoke/VarHandle" ∧ (parseMethodDescriptor yX10_forced.desc).map (fun d => d.parameters.length) = some 1 := by decide +kernel
noncomputable def M_X10_forced (p1 : Int32) : TM Int32 := TM.bind (sI 0 0) (fun _ => TM.bind ((if p1 < 0 then TM.pure (-1) else TM.bind (tI 38) (fun v2 => if v2 ≤ p1 then TM.pure (-1) else TM.bind (tA 35 10 p1) (fun v3 => TM.pure v3)) : TM (Int32))) (fun u1 => TM.pure u1))
set_option maxHeartbeats 4000000 in
theorem ct_X10_forced (G : gG) (am : Nat) (p1 : Int32) : gCtM G am yX10_forced cX10_forced 2 (some .int) 0 0 [.ref am, .int p1] (M_X10_forced p1) (fun x : Int32 => some (.int x)) := by
  refine gCtM.of (by decide) (Nat.le_of_ble_eq_true rfl) (fun K hn ms ms' r hG X hK hd ho => ?_)
  subst hG
  have X : gX K cX10_forced 2 "BitingDoorsModel" "forced" (some .int) 0 0 := X
  show V K 2 (mkM am hn ms) 0 [(0, .ref am), (1, .int p1)] []
  unfold M_X10_forced at hd
  refine v_aload_n X dX10_forced_0 0 0 rfl rfl ?_
  refine v_iconst (v := 0) X dX10_forced_1 (by decide) ?_
  refine t_putI X hd rfl fp_X10_108 dX10_forced_2 (fun ms hd => ?_)
  refine v_iload_n X dX10_forced_5 1 1 rfl rfl ?_
  obtain ⟨u1, m1, hd, hd2⟩ := TM.bind_some hd
  have KJ : V K 2 (mkM am hn m1) 27 [] [.int u1] := by
    clear hd
    have hd := hd2
    exact t_iret X hK hd ho dX10_forced_27
  clear hd2
  refine v_if_lt (tgt := 26) X dX10_forced_6 (by decide) (fun q => ?_) (fun q => ?_)
  · have hd := Tite_t q hd
    refine v_iconst (v := (-1)) X dX10_forced_26 (by decide) ?_
    exact v_loc [] rfl (t_at (P := fun (u1 : Int32) m => V K 2 (mkM am hn m) 27 [] [.int u1]) hd KJ)
  · have hd := Tite_f q hd
    refine v_iload_n X dX10_forced_9 1 1 rfl rfl ?_
    refine v_aload_n X dX10_forced_10 0 0 rfl rfl ?_
    refine t_getI X hd rfl fl_X10_336 dX10_forced_11 (fun v2 hd => ?_)
    refine v_icmp_ge (tgt := 26) X dX10_forced_14 (by decide) (fun q => ?_) (fun q => ?_)
    · have hd := Tite_t q hd
      refine v_iconst (v := (-1)) X dX10_forced_26 (by decide) ?_
      exact v_loc [] rfl (t_at (P := fun (u1 : Int32) m => V K 2 (mkM am hn m) 27 [] [.int u1]) hd KJ)
    · have hd := Tite_f q hd
      refine v_aload_n X dX10_forced_17 0 0 rfl rfl ?_
      refine t_getA (j := 17) X rfl fl_X10_63 dX10_forced_18 ?_
      refine v_iload_n X dX10_forced_21 1 1 rfl rfl ?_
      refine t_iald (j := 17) X hd rfl dX10_forced_22 (fun v3 hd => ?_)
      refine v_goto (tgt := 27) X dX10_forced_23 (by decide) ?_
      exact v_loc [] rfl (t_at (P := fun (u1 : Int32) m => V K 2 (mkM am hn m) 27 [] [.int u1]) hd KJ)
def dkwX10_walkOn_8 : List UInt8 := [132, 1, 1, 167, 255, 90, 177]
abbrev dktX10_walkOn_8 : List UInt8 := dkwX10_walkOn_8 ++ []
def dkwX10_walkOn_7 : List UInt8 := [16, 10, 21, 4, 104, 29, 96, 79, 42, 89, 180, 1, 158, 4, 96, 181, 1, 158, 132, 2, 1, 167, 255, 106]
abbrev dktX10_walkOn_7 : List UInt8 := dkwX10_walkOn_7 ++ dktX10_walkOn_8
def dkwX10_walkOn_6 : List UInt8 := [167, 0, 42, 42, 180, 0, 102, 16, 10, 21, 4, 104, 29, 96, 4, 84, 42, 180, 0, 87, 42, 180, 1, 158]
abbrev dktX10_walkOn_6 : List UInt8 := dkwX10_walkOn_6 ++ dktX10_walkOn_7
def dkwX10_walkOn_5 : List UInt8 := [21, 4, 104, 29, 96, 46, 154, 0, 60, 42, 180, 0, 102, 16, 10, 21, 4, 104, 29, 96, 51, 153, 0, 6]
abbrev dktX10_walkOn_5 : List UInt8 := dkwX10_walkOn_5 ++ dktX10_walkOn_6
def dkwX10_walkOn_4 : List UInt8 := [167, 0, 4, 3, 96, 54, 4, 42, 29, 21, 4, 182, 1, 107, 153, 0, 75, 42, 180, 0, 81, 16, 10]
abbrev dktX10_walkOn_4 : List UInt8 := dkwX10_walkOn_4 ++ dktX10_walkOn_5
def dkwX10_walkOn_3 : List UInt8 := [42, 180, 0, 87, 27, 46, 16, 10, 108, 28, 5, 160, 0, 7, 4, 167, 0, 12, 28, 154, 0, 7, 2]
abbrev dktX10_walkOn_3 : List UInt8 := dkwX10_walkOn_3 ++ dktX10_walkOn_4
def dkwX10_walkOn_2 : List UInt8 := [16, 10, 112, 28, 4, 160, 0, 7, 4, 167, 0, 13, 28, 6, 160, 0, 7, 2, 167, 0, 4, 3, 96, 62]
abbrev dktX10_walkOn_2 : List UInt8 := dkwX10_walkOn_2 ++ dktX10_walkOn_3
def dkwX10_walkOn_1 : List UInt8 := [84, 3, 60, 27, 42, 180, 1, 158, 162, 0, 164, 3, 61, 28, 7, 162, 0, 151, 42, 180, 0, 87, 27, 46]
abbrev dktX10_walkOn_1 : List UInt8 := dkwX10_walkOn_1 ++ dktX10_walkOn_2
def dkwX10_walkOn_0 : List UInt8 := [42, 180, 0, 87, 3, 42, 180, 1, 98, 79, 42, 4, 181, 1, 158, 42, 180, 0, 102, 42, 180, 1, 98, 4]
abbrev dktX10_walkOn_0 : List UInt8 := dkwX10_walkOn_0 ++ dktX10_walkOn_1
theorem dksX10_walkOn_0 : cX10_walkOn.data.toList.drop 0 = dktX10_walkOn_0 := by decide +kernel
theorem dksX10_walkOn_1 : cX10_walkOn.data.toList.drop 24 = dktX10_walkOn_1 := dk_seg dksX10_walkOn_0 24 rfl rfl
theorem dksX10_walkOn_2 : cX10_walkOn.data.toList.drop 48 = dktX10_walkOn_2 := dk_seg dksX10_walkOn_1 24 rfl rfl
theorem dksX10_walkOn_3 : cX10_walkOn.data.toList.drop 72 = dktX10_walkOn_3 := dk_seg dksX10_walkOn_2 24 rfl rfl
theorem dksX10_walkOn_4 : cX10_walkOn.data.toList.drop 95 = dktX10_walkOn_4 := dk_seg dksX10_walkOn_3 23 rfl rfl
theorem dksX10_walkOn_5 : cX10_walkOn.data.toList.drop 118 = dktX10_walkOn_5 := dk_seg dksX10_walkOn_4 23 rfl rfl
theorem dksX10_walkOn_6 : cX10_walkOn.data.toList.drop 142 = dktX10_walkOn_6 := dk_seg dksX10_walkOn_5 24 rfl rfl
theorem dksX10_walkOn_7 : cX10_walkOn.data.toList.drop 166 = dktX10_walkOn_7 := dk_seg dksX10_walkOn_6 24 rfl rfl
theorem dksX10_walkOn_8 : cX10_walkOn.data.toList.drop 190 = dktX10_walkOn_8 := dk_seg dksX10_walkOn_7 24 rfl rfl
theorem dX10_walkOn_0 : decode cX10_walkOn 0 = .ok (.aload_n 0, 1) := dk_42 (dk_at dksX10_walkOn_0 0 rfl rfl)
theorem dX10_walkOn_1 : decode cX10_walkOn 1 = .ok (.getfield 87, 3) := dk_180 0 87 (dk_at dksX10_walkOn_0 1 rfl rfl)
theorem dX10_walkOn_4 : decode cX10_walkOn 4 = .ok (.iconst 0, 1) := dk_3 (dk_at dksX10_walkOn_0 4 rfl rfl)
theorem dX10_walkOn_5 : decode cX10_walkOn 5 = .ok (.aload_n 0, 1) := dk_42 (dk_at dksX10_walkOn_0 5 rfl rfl)
theorem dX10_walkOn_6 : decode cX10_walkOn 6 = .ok (.getfield 354, 3) := dk_180 1 98 (dk_at dksX10_walkOn_0 6 rfl rfl)
theorem dX10_walkOn_9 : decode cX10_walkOn 9 = .ok (.iastore, 1) := dk_79 (dk_at dksX10_walkOn_0 9 rfl rfl)
theorem dX10_walkOn_10 : decode cX10_walkOn 10 = .ok (.aload_n 0, 1) := dk_42 (dk_at dksX10_walkOn_0 10 rfl rfl)
theorem dX10_walkOn_11 : decode cX10_walkOn 11 = .ok (.iconst 1, 1) := dk_4 (dk_at dksX10_walkOn_0 11 rfl rfl)
theorem dX10_walkOn_12 : decode cX10_walkOn 12 = .ok (.putfield 414, 3) := dk_181 1 158 (dk_at dksX10_walkOn_0 12 rfl rfl)
theorem dX10_walkOn_15 : decode cX10_walkOn 15 = .ok (.aload_n 0, 1) := dk_42 (dk_at dksX10_walkOn_0 15 rfl rfl)
theorem dX10_walkOn_16 : decode cX10_walkOn 16 = .ok (.getfield 102, 3) := dk_180 0 102 (dk_at dksX10_walkOn_0 16 rfl rfl)
theorem dX10_walkOn_19 : decode cX10_walkOn 19 = .ok (.aload_n 0, 1) := dk_42 (dk_at dksX10_walkOn_0 19 rfl rfl)
theorem dX10_walkOn_20 : decode cX10_walkOn 20 = .ok (.getfield 354, 3) := dk_180 1 98 (dk_at dksX10_walkOn_0 20 rfl rfl)
theorem dX10_walkOn_23 : decode cX10_walkOn 23 = .ok (.iconst 1, 1) := dk_4 (dk_at dksX10_walkOn_0 23 rfl rfl)
theorem dX10_walkOn_24 : decode cX10_walkOn 24 = .ok (.bastore, 1) := dk_84 (dk_at dksX10_walkOn_1 0 rfl rfl)
theorem dX10_walkOn_25 : decode cX10_walkOn 25 = .ok (.iconst 0, 1) := dk_3 (dk_at dksX10_walkOn_1 1 rfl rfl)
theorem dX10_walkOn_26 : decode cX10_walkOn 26 = .ok (.istore_n 1, 1) := dk_60 (dk_at dksX10_walkOn_1 2 rfl rfl)
theorem dX10_walkOn_27 : decode cX10_walkOn 27 = .ok (.iload_n 1, 1) := dk_27 (dk_at dksX10_walkOn_1 3 rfl rfl)
theorem dX10_walkOn_28 : decode cX10_walkOn 28 = .ok (.aload_n 0, 1) := dk_42 (dk_at dksX10_walkOn_1 4 rfl rfl)
theorem dX10_walkOn_29 : decode cX10_walkOn 29 = .ok (.getfield 414, 3) := dk_180 1 158 (dk_at dksX10_walkOn_1 5 rfl rfl)
theorem dX10_walkOn_32 : decode cX10_walkOn 32 = .ok (.if_icmp .ge 164, 3) := dk_162 0 164 (dk_at dksX10_walkOn_1 8 rfl rfl)
theorem dX10_walkOn_35 : decode cX10_walkOn 35 = .ok (.iconst 0, 1) := dk_3 (dk_at dksX10_walkOn_1 11 rfl rfl)
theorem dX10_walkOn_36 : decode cX10_walkOn 36 = .ok (.istore_n 2, 1) := dk_61 (dk_at dksX10_walkOn_1 12 rfl rfl)
theorem dX10_walkOn_37 : decode cX10_walkOn 37 = .ok (.iload_n 2, 1) := dk_28 (dk_at dksX10_walkOn_1 13 rfl rfl)
theorem dX10_walkOn_38 : decode cX10_walkOn 38 = .ok (.iconst 4, 1) := dk_7 (dk_at dksX10_walkOn_1 14 rfl rfl)
theorem dX10_walkOn_39 : decode cX10_walkOn 39 = .ok (.if_icmp .ge 151, 3) := dk_162 0 151 (dk_at dksX10_walkOn_1 15 rfl rfl)
theorem dX10_walkOn_42 : decode cX10_walkOn 42 = .ok (.aload_n 0, 1) := dk_42 (dk_at dksX10_walkOn_1 18 rfl rfl)
theorem dX10_walkOn_43 : decode cX10_walkOn 43 = .ok (.getfield 87, 3) := dk_180 0 87 (dk_at dksX10_walkOn_1 19 rfl rfl)
theorem dX10_walkOn_46 : decode cX10_walkOn 46 = .ok (.iload_n 1, 1) := dk_27 (dk_at dksX10_walkOn_1 22 rfl rfl)
theorem dX10_walkOn_47 : decode cX10_walkOn 47 = .ok (.iaload, 1) := dk_46 (dk_at dksX10_walkOn_1 23 rfl rfl)
theorem dX10_walkOn_48 : decode cX10_walkOn 48 = .ok (.bipush 10, 2) := dk_16 10 (dk_at dksX10_walkOn_2 0 rfl rfl)
theorem dX10_walkOn_50 : decode cX10_walkOn 50 = .ok (.irem, 1) := dk_112 (dk_at dksX10_walkOn_2 2 rfl rfl)
theorem dX10_walkOn_51 : decode cX10_walkOn 51 = .ok (.iload_n 2, 1) := dk_28 (dk_at dksX10_walkOn_2 3 rfl rfl)
theorem dX10_walkOn_52 : decode cX10_walkOn 52 = .ok (.iconst 1, 1) := dk_4 (dk_at dksX10_walkOn_2 4 rfl rfl)
theorem dX10_walkOn_53 : decode cX10_walkOn 53 = .ok (.if_icmp .ne 7, 3) := dk_160 0 7 (dk_at dksX10_walkOn_2 5 rfl rfl)
theorem dX10_walkOn_56 : decode cX10_walkOn 56 = .ok (.iconst 1, 1) := dk_4 (dk_at dksX10_walkOn_2 8 rfl rfl)
theorem dX10_walkOn_57 : decode cX10_walkOn 57 = .ok (.goto 13, 3) := dk_167 0 13 (dk_at dksX10_walkOn_2 9 rfl rfl)
theorem dX10_walkOn_60 : decode cX10_walkOn 60 = .ok (.iload_n 2, 1) := dk_28 (dk_at dksX10_walkOn_2 12 rfl rfl)
theorem dX10_walkOn_61 : decode cX10_walkOn 61 = .ok (.iconst 3, 1) := dk_6 (dk_at dksX10_walkOn_2 13 rfl rfl)
theorem dX10_walkOn_62 : decode cX10_walkOn 62 = .ok (.if_icmp .ne 7, 3) := dk_160 0 7 (dk_at dksX10_walkOn_2 14 rfl rfl)
theorem dX10_walkOn_65 : decode cX10_walkOn 65 = .ok (.iconst (-1), 1) := dk_2 (dk_at dksX10_walkOn_2 17 rfl rfl)
theorem dX10_walkOn_66 : decode cX10_walkOn 66 = .ok (.goto 4, 3) := dk_167 0 4 (dk_at dksX10_walkOn_2 18 rfl rfl)
theorem dX10_walkOn_69 : decode cX10_walkOn 69 = .ok (.iconst 0, 1) := dk_3 (dk_at dksX10_walkOn_2 21 rfl rfl)
theorem dX10_walkOn_70 : decode cX10_walkOn 70 = .ok (.iadd, 1) := dk_96 (dk_at dksX10_walkOn_2 22 rfl rfl)
theorem dX10_walkOn_71 : decode cX10_walkOn 71 = .ok (.istore_n 3, 1) := dk_62 (dk_at dksX10_walkOn_2 23 rfl rfl)
theorem dX10_walkOn_72 : decode cX10_walkOn 72 = .ok (.aload_n 0, 1) := dk_42 (dk_at dksX10_walkOn_3 0 rfl rfl)
theorem dX10_walkOn_73 : decode cX10_walkOn 73 = .ok (.getfield 87, 3) := dk_180 0 87 (dk_at dksX10_walkOn_3 1 rfl rfl)
theorem dX10_walkOn_76 : decode cX10_walkOn 76 = .ok (.iload_n 1, 1) := dk_27 (dk_at dksX10_walkOn_3 4 rfl rfl)
theorem dX10_walkOn_77 : decode cX10_walkOn 77 = .ok (.iaload, 1) := dk_46 (dk_at dksX10_walkOn_3 5 rfl rfl)
theorem dX10_walkOn_78 : decode cX10_walkOn 78 = .ok (.bipush 10, 2) := dk_16 10 (dk_at dksX10_walkOn_3 6 rfl rfl)
theorem dX10_walkOn_80 : decode cX10_walkOn 80 = .ok (.idiv, 1) := dk_108 (dk_at dksX10_walkOn_3 8 rfl rfl)
theorem dX10_walkOn_81 : decode cX10_walkOn 81 = .ok (.iload_n 2, 1) := dk_28 (dk_at dksX10_walkOn_3 9 rfl rfl)
theorem dX10_walkOn_82 : decode cX10_walkOn 82 = .ok (.iconst 2, 1) := dk_5 (dk_at dksX10_walkOn_3 10 rfl rfl)
theorem dX10_walkOn_83 : decode cX10_walkOn 83 = .ok (.if_icmp .ne 7, 3) := dk_160 0 7 (dk_at dksX10_walkOn_3 11 rfl rfl)
theorem dX10_walkOn_86 : decode cX10_walkOn 86 = .ok (.iconst 1, 1) := dk_4 (dk_at dksX10_walkOn_3 14 rfl rfl)
theorem dX10_walkOn_87 : decode cX10_walkOn 87 = .ok (.goto 12, 3) := dk_167 0 12 (dk_at dksX10_walkOn_3 15 rfl rfl)
theorem dX10_walkOn_90 : decode cX10_walkOn 90 = .ok (.iload_n 2, 1) := dk_28 (dk_at dksX10_walkOn_3 18 rfl rfl)
theorem dX10_walkOn_91 : decode cX10_walkOn 91 = .ok (.ifCond .ne 7, 3) := dk_154 0 7 (dk_at dksX10_walkOn_3 19 rfl rfl)
theorem dX10_walkOn_94 : decode cX10_walkOn 94 = .ok (.iconst (-1), 1) := dk_2 (dk_at dksX10_walkOn_3 22 rfl rfl)
theorem dX10_walkOn_95 : decode cX10_walkOn 95 = .ok (.goto 4, 3) := dk_167 0 4 (dk_at dksX10_walkOn_4 0 rfl rfl)
theorem dX10_walkOn_98 : decode cX10_walkOn 98 = .ok (.iconst 0, 1) := dk_3 (dk_at dksX10_walkOn_4 3 rfl rfl)
theorem dX10_walkOn_99 : decode cX10_walkOn 99 = .ok (.iadd, 1) := dk_96 (dk_at dksX10_walkOn_4 4 rfl rfl)
theorem dX10_walkOn_100 : decode cX10_walkOn 100 = .ok (.istore 4, 2) := dk_54 4 (dk_at dksX10_walkOn_4 5 rfl rfl)
theorem dX10_walkOn_102 : decode cX10_walkOn 102 = .ok (.aload_n 0, 1) := dk_42 (dk_at dksX10_walkOn_4 7 rfl rfl)
theorem dX10_walkOn_103 : decode cX10_walkOn 103 = .ok (.iload_n 3, 1) := dk_29 (dk_at dksX10_walkOn_4 8 rfl rfl)
theorem dX10_walkOn_104 : decode cX10_walkOn 104 = .ok (.iload 4, 2) := dk_21 4 (dk_at dksX10_walkOn_4 9 rfl rfl)
theorem dX10_walkOn_106 : decode cX10_walkOn 106 = .ok (.invokevirtual 363, 3) := dk_182 1 107 (dk_at dksX10_walkOn_4 11 rfl rfl)
theorem dX10_walkOn_109 : decode cX10_walkOn 109 = .ok (.ifCond .eq 75, 3) := dk_153 0 75 (dk_at dksX10_walkOn_4 14 rfl rfl)
theorem dX10_walkOn_112 : decode cX10_walkOn 112 = .ok (.aload_n 0, 1) := dk_42 (dk_at dksX10_walkOn_4 17 rfl rfl)
theorem dX10_walkOn_113 : decode cX10_walkOn 113 = .ok (.getfield 81, 3) := dk_180 0 81 (dk_at dksX10_walkOn_4 18 rfl rfl)
theorem dX10_walkOn_116 : decode cX10_walkOn 116 = .ok (.bipush 10, 2) := dk_16 10 (dk_at dksX10_walkOn_4 21 rfl rfl)
theorem dX10_walkOn_118 : decode cX10_walkOn 118 = .ok (.iload 4, 2) := dk_21 4 (dk_at dksX10_walkOn_5 0 rfl rfl)
theorem dX10_walkOn_120 : decode cX10_walkOn 120 = .ok (.imul, 1) := dk_104 (dk_at dksX10_walkOn_5 2 rfl rfl)
theorem dX10_walkOn_121 : decode cX10_walkOn 121 = .ok (.iload_n 3, 1) := dk_29 (dk_at dksX10_walkOn_5 3 rfl rfl)
theorem dX10_walkOn_122 : decode cX10_walkOn 122 = .ok (.iadd, 1) := dk_96 (dk_at dksX10_walkOn_5 4 rfl rfl)
theorem dX10_walkOn_123 : decode cX10_walkOn 123 = .ok (.iaload, 1) := dk_46 (dk_at dksX10_walkOn_5 5 rfl rfl)
theorem dX10_walkOn_124 : decode cX10_walkOn 124 = .ok (.ifCond .ne 60, 3) := dk_154 0 60 (dk_at dksX10_walkOn_5 6 rfl rfl)
theorem dX10_walkOn_127 : decode cX10_walkOn 127 = .ok (.aload_n 0, 1) := dk_42 (dk_at dksX10_walkOn_5 9 rfl rfl)
theorem dX10_walkOn_128 : decode cX10_walkOn 128 = .ok (.getfield 102, 3) := dk_180 0 102 (dk_at dksX10_walkOn_5 10 rfl rfl)
theorem dX10_walkOn_131 : decode cX10_walkOn 131 = .ok (.bipush 10, 2) := dk_16 10 (dk_at dksX10_walkOn_5 13 rfl rfl)
theorem dX10_walkOn_133 : decode cX10_walkOn 133 = .ok (.iload 4, 2) := dk_21 4 (dk_at dksX10_walkOn_5 15 rfl rfl)
theorem dX10_walkOn_135 : decode cX10_walkOn 135 = .ok (.imul, 1) := dk_104 (dk_at dksX10_walkOn_5 17 rfl rfl)
theorem dX10_walkOn_136 : decode cX10_walkOn 136 = .ok (.iload_n 3, 1) := dk_29 (dk_at dksX10_walkOn_5 18 rfl rfl)
theorem dX10_walkOn_137 : decode cX10_walkOn 137 = .ok (.iadd, 1) := dk_96 (dk_at dksX10_walkOn_5 19 rfl rfl)
theorem dX10_walkOn_138 : decode cX10_walkOn 138 = .ok (.baload, 1) := dk_51 (dk_at dksX10_walkOn_5 20 rfl rfl)
theorem dX10_walkOn_139 : decode cX10_walkOn 139 = .ok (.ifCond .eq 6, 3) := dk_153 0 6 (dk_at dksX10_walkOn_5 21 rfl rfl)
theorem dX10_walkOn_142 : decode cX10_walkOn 142 = .ok (.goto 42, 3) := dk_167 0 42 (dk_at dksX10_walkOn_6 0 rfl rfl)
theorem dX10_walkOn_145 : decode cX10_walkOn 145 = .ok (.aload_n 0, 1) := dk_42 (dk_at dksX10_walkOn_6 3 rfl rfl)
theorem dX10_walkOn_146 : decode cX10_walkOn 146 = .ok (.getfield 102, 3) := dk_180 0 102 (dk_at dksX10_walkOn_6 4 rfl rfl)
theorem dX10_walkOn_149 : decode cX10_walkOn 149 = .ok (.bipush 10, 2) := dk_16 10 (dk_at dksX10_walkOn_6 7 rfl rfl)
theorem dX10_walkOn_151 : decode cX10_walkOn 151 = .ok (.iload 4, 2) := dk_21 4 (dk_at dksX10_walkOn_6 9 rfl rfl)
theorem dX10_walkOn_153 : decode cX10_walkOn 153 = .ok (.imul, 1) := dk_104 (dk_at dksX10_walkOn_6 11 rfl rfl)
theorem dX10_walkOn_154 : decode cX10_walkOn 154 = .ok (.iload_n 3, 1) := dk_29 (dk_at dksX10_walkOn_6 12 rfl rfl)
theorem dX10_walkOn_155 : decode cX10_walkOn 155 = .ok (.iadd, 1) := dk_96 (dk_at dksX10_walkOn_6 13 rfl rfl)
theorem dX10_walkOn_156 : decode cX10_walkOn 156 = .ok (.iconst 1, 1) := dk_4 (dk_at dksX10_walkOn_6 14 rfl rfl)
theorem dX10_walkOn_157 : decode cX10_walkOn 157 = .ok (.bastore, 1) := dk_84 (dk_at dksX10_walkOn_6 15 rfl rfl)
theorem dX10_walkOn_158 : decode cX10_walkOn 158 = .ok (.aload_n 0, 1) := dk_42 (dk_at dksX10_walkOn_6 16 rfl rfl)
theorem dX10_walkOn_159 : decode cX10_walkOn 159 = .ok (.getfield 87, 3) := dk_180 0 87 (dk_at dksX10_walkOn_6 17 rfl rfl)
theorem dX10_walkOn_162 : decode cX10_walkOn 162 = .ok (.aload_n 0, 1) := dk_42 (dk_at dksX10_walkOn_6 20 rfl rfl)
theorem dX10_walkOn_163 : decode cX10_walkOn 163 = .ok (.getfield 414, 3) := dk_180 1 158 (dk_at dksX10_walkOn_6 21 rfl rfl)
theorem dX10_walkOn_166 : decode cX10_walkOn 166 = .ok (.bipush 10, 2) := dk_16 10 (dk_at dksX10_walkOn_7 0 rfl rfl)
theorem dX10_walkOn_168 : decode cX10_walkOn 168 = .ok (.iload 4, 2) := dk_21 4 (dk_at dksX10_walkOn_7 2 rfl rfl)
theorem dX10_walkOn_170 : decode cX10_walkOn 170 = .ok (.imul, 1) := dk_104 (dk_at dksX10_walkOn_7 4 rfl rfl)
theorem dX10_walkOn_171 : decode cX10_walkOn 171 = .ok (.iload_n 3, 1) := dk_29 (dk_at dksX10_walkOn_7 5 rfl rfl)
theorem dX10_walkOn_172 : decode cX10_walkOn 172 = .ok (.iadd, 1) := dk_96 (dk_at dksX10_walkOn_7 6 rfl rfl)
theorem dX10_walkOn_173 : decode cX10_walkOn 173 = .ok (.iastore, 1) := dk_79 (dk_at dksX10_walkOn_7 7 rfl rfl)
theorem dX10_walkOn_174 : decode cX10_walkOn 174 = .ok (.aload_n 0, 1) := dk_42 (dk_at dksX10_walkOn_7 8 rfl rfl)
theorem dX10_walkOn_175 : decode cX10_walkOn 175 = .ok (.dup, 1) := dk_89 (dk_at dksX10_walkOn_7 9 rfl rfl)
theorem dX10_walkOn_176 : decode cX10_walkOn 176 = .ok (.getfield 414, 3) := dk_180 1 158 (dk_at dksX10_walkOn_7 10 rfl rfl)
theorem dX10_walkOn_179 : decode cX10_walkOn 179 = .ok (.iconst 1, 1) := dk_4 (dk_at dksX10_walkOn_7 13 rfl rfl)
theorem dX10_walkOn_180 : decode cX10_walkOn 180 = .ok (.iadd, 1) := dk_96 (dk_at dksX10_walkOn_7 14 rfl rfl)
theorem dX10_walkOn_181 : decode cX10_walkOn 181 = .ok (.putfield 414, 3) := dk_181 1 158 (dk_at dksX10_walkOn_7 15 rfl rfl)
theorem dX10_walkOn_184 : decode cX10_walkOn 184 = .ok (.iinc 2 1, 3) := dk_132 2 1 (dk_at dksX10_walkOn_7 18 rfl rfl)
theorem dX10_walkOn_187 : decode cX10_walkOn 187 = .ok (.goto (-150), 3) := dk_167 255 106 (dk_at dksX10_walkOn_7 21 rfl rfl)
theorem dX10_walkOn_190 : decode cX10_walkOn 190 = .ok (.iinc 1 1, 3) := dk_132 1 1 (dk_at dksX10_walkOn_8 0 rfl rfl)
theorem dX10_walkOn_193 : decode cX10_walkOn 193 = .ok (.goto (-166), 3) := dk_167 255 90 (dk_at dksX10_walkOn_8 3 rfl rfl)
theorem dX10_walkOn_196 : decode cX10_walkOn 196 = .ok (.return_, 1) := dk_177 (dk_at dksX10_walkOn_8 6 rfl rfl)
theorem fl_X10_102 : gFl "BitingDoorsModel" 102 [8] 58 := by
  intro args s hts hN ci hc
  simp only [List.mem_cons, List.not_mem_nil, or_false] at hc
  subst hc
  exact ⟨RX10, TX10, 64, "BitingDoorsModel", gCl_X10, in_X10, by decide, Or.inl (hts _ q1708), fun _ h => h⟩
theorem dn_X10_walkOn : yX10_walkOn.cls ≠ "java/lang/invoke/MethodHandle" ∧ yX10_walkOn.cls ≠ "java/lang/invoke/VarHandle" ∧ (parseMethodDescriptor yX10_walkOn.desc).map (fun d => d.parameters.length) = some 0 := by decide +kernel
noncomputable def M_X10_walkOn  : TM Unit := TM.bind (tI 45) (fun v1 => TM.bind (sA 50 24300 0 v1) (fun _ => TM.bind (sI 55 1) (fun _ => TM.bind (tI 45) (fun v2 => TM.bind (sA 58 100 v2 1) (fun _ => TM.bind (TM.loop (S := Int32) (E := Unit) (fun s3 => TM.bind (tI 55) (fun v7 => if v7 ≤ s3 then TM.pure (Sum.inr ()) else TM.bind (TM.loop (S := Int32) (E := Unit) (fun s8 => if 4 ≤ s8 then TM.pure (Sum.inr ()) else TM.bind (tA 50 24300 s3) (fun v12 => TM.bind ((if s8 = 1 then TM.pure 1 else if s8 = 3 then TM.pure (-1) else TM.pure 0 : TM (Int32))) (fun u13 => TM.lv ((v12 - v12 / 10 * 10) + u13) (fun v14 => TM.bind (tA 50 24300 s3) (fun v15 => TM.bind ((if s8 = 2 then TM.pure 1 else if s8 = 0 then TM.pure (-1) else TM.pure 0 : TM (Int32))) (fun u16 => TM.lv ((v15 / 10) + u16) (fun v17 => TM.bind (M_X10_isWalked v14 v17) (fun v18 => TM.bind ((cond v18 (TM.bind (tA 44 100 ((10 * v17) + v14)) (fun v21 => if v21 = 0 then TM.bind (tA 58 100 ((10 * v17) + v14)) (fun v22 => if v22 = 0 then TM.bind (sA 58 100 ((10 * v17) + v14) 1) (fun _ => TM.bind (tI 55) (fun v23 => TM.bind (sA 50 24300 v23 ((10 * v17) + v14)) (fun _ => TM.bind (tI 55) (fun v24 => TM.bind (sI 55 (v24 + 1)) (fun _ => TM.pure ()))))) else TM.pure ()) else TM.pure ())) (TM.pure ()) : TM (Unit))) (fun u19 => TM.lv (s8 + 1) (fun v20 => TM.pure (Sum.inl v20))))))))))) 0) (fun e11 => TM.lv (s3 + 1) (fun v25 => TM.pure (Sum.inl v25))))) 0) (fun e6 => TM.pure ()))))))
set_option maxHeartbeats 4000000 in
theorem ct_X10_walkOn (G : gG) (am : Nat)  : gCtM G am yX10_walkOn cX10_walkOn 5 none 2 44 [.ref am] (M_X10_walkOn) (fun _ : Unit => none) := by
  refine gCtM.of (by decide) (Nat.le_of_ble_eq_true rfl) (fun K hn ms ms' r hG X hK hd ho => ?_)
  subst hG
  have X : gX K cX10_walkOn 5 "BitingDoorsModel" "walkOn" none 2 44 := X
  show V K 5 (mkM am hn ms) 0 [(0, .ref am)] []
  unfold M_X10_walkOn at hd
  refine v_aload_n X dX10_walkOn_0 0 0 rfl rfl ?_
  refine t_getA (j := 25) X rfl fl_X10_87 dX10_walkOn_1 ?_
  refine v_iconst (v := 0) X dX10_walkOn_4 (by decide) ?_
  refine v_aload_n X dX10_walkOn_5 0 0 rfl rfl ?_
  refine t_getI X hd rfl fl_X10_354 dX10_walkOn_6 (fun v1 hd => ?_)
  refine t_iast (j := 25) X hd rfl dX10_walkOn_9 (fun ms hd => ?_)
  refine v_aload_n X dX10_walkOn_10 0 0 rfl rfl ?_
  refine v_iconst (v := 1) X dX10_walkOn_11 (by decide) ?_
  refine t_putI X hd rfl fp_X10_414 dX10_walkOn_12 (fun ms hd => ?_)
  refine v_aload_n X dX10_walkOn_15 0 0 rfl rfl ?_
  refine t_getA (j := 30) X rfl fl_X10_102 dX10_walkOn_16 ?_
  refine v_aload_n X dX10_walkOn_19 0 0 rfl rfl ?_
  refine t_getI X hd rfl fl_X10_354 dX10_walkOn_20 (fun v2 hd => ?_)
  refine v_iconst (v := 1) X dX10_walkOn_23 (by decide) ?_
  refine t_zast (j := 30) X hd rfl rfl dX10_walkOn_24 (fun ms hd => ?_)
  refine v_iconst (v := 0) X dX10_walkOn_25 (by decide) ?_
  refine v_istore_n (lv2 := [(1, .int 0), (0, .ref am)]) X dX10_walkOn_26 1 rfl (by decide) rfl ?_
  obtain ⟨e6, m1, hd, hd2⟩ := TM.bind_some hd
  have KX : V K 5 (mkM am hn m1) 196 [] [] := by
    clear hd
    have hd := hd2
    exact t_vret X hK hd ho dX10_walkOn_196
  clear hd2
  refine v_loc [1, 0] rfl ?_
  refine Tloop_ind hd (fun (s3 : Int32) m => V K 5 (mkM am hn m) 27 [(0, .ref am), (1, .int s3)] []) (fun s3 ms x m2 hd ih4 ho5 => ?_)
  refine v_iload_n X dX10_walkOn_27 1 1 rfl rfl ?_
  refine v_aload_n X dX10_walkOn_28 0 0 rfl rfl ?_
  refine t_getI X hd rfl fl_X10_414 dX10_walkOn_29 (fun v7 hd => ?_)
  refine v_icmp_ge (tgt := 196) X dX10_walkOn_32 (by decide) (fun q => ?_) (fun q => ?_)
  · have hd := Tite_t q hd
    exact v_loc [] rfl (t_at (P := fun (e6 : Unit) m => V K 5 (mkM am hn m) 196 [] []) (Tlp_out hd ho5) KX)
  · have hd := Tite_f q hd
    refine v_iconst (v := 0) X dX10_walkOn_35 (by decide) ?_
    refine v_istore_n (lv2 := [(2, .int 0), (0, .ref am), (1, .int s3)]) X dX10_walkOn_36 2 rfl (by decide) rfl ?_
    obtain ⟨e11, m1, hd, hd2⟩ := TM.bind_some hd
    have KX : V K 5 (mkM am hn m1) 190 [(0, .ref am), (1, .int s3)] [] := by
      clear hd
      have hd := hd2
      refine t_iincL (lv2 := fun v25 => [(1, .int v25), (0, .ref am)]) X hd dX10_walkOn_190 1 rfl (by decide : Int32.ofInt 1 = 1) (by decide) (fun v25 => rfl) (fun v25 hd => ?_)
      refine v_goto (tgt := 27) X dX10_walkOn_193 (by decide) ?_
      exact v_loc [1, 0] rfl (Tlp_in (P := fun (s3 : Int32) m => V K 5 (mkM am hn m) 27 [(0, .ref am), (1, .int s3)] []) hd ih4)
    clear hd2
    refine v_loc [1, 2, 0] rfl ?_
    refine Tloop_ind hd (fun (s8 : Int32) m => V K 5 (mkM am hn m) 37 [(0, .ref am), (1, .int s3), (2, .int s8)] []) (fun s8 ms x m2 hd ih9 ho10 => ?_)
    refine v_iload_n X dX10_walkOn_37 2 2 rfl rfl ?_
    refine v_iconst (v := 4) X dX10_walkOn_38 (by decide) ?_
    refine v_icmp_ge (tgt := 190) X dX10_walkOn_39 (by decide) (fun q => ?_) (fun q => ?_)
    · have hd := Tite_t q hd
      exact v_loc [0, 1] rfl (t_at (P := fun (e11 : Unit) m => V K 5 (mkM am hn m) 190 [(0, .ref am), (1, .int s3)] []) (Tlp_out hd ho10) KX)
    · have hd := Tite_f q hd
      refine v_aload_n X dX10_walkOn_42 0 0 rfl rfl ?_
      refine t_getA (j := 25) X rfl fl_X10_87 dX10_walkOn_43 ?_
      refine v_iload_n X dX10_walkOn_46 1 1 rfl rfl ?_
      refine t_iald (j := 25) X hd rfl dX10_walkOn_47 (fun v12 hd => ?_)
      refine v_bipush (v := 10) X dX10_walkOn_48 (by decide) ?_
      refine v_irem X dX10_walkOn_50 (by decide) ?_
      refine v_iload_n X dX10_walkOn_51 2 2 rfl rfl ?_
      refine v_iconst (v := 1) X dX10_walkOn_52 (by decide) ?_
      obtain ⟨u13, m1, hd, hd2⟩ := TM.bind_some hd
      have KJ : V K 5 (mkM am hn m1) 70 [(0, .ref am), (1, .int s3), (2, .int s8)] [.int u13, .int (v12 - v12 / 10 * 10)] := by
        clear hd
        have hd := hd2
        refine v_iadd X dX10_walkOn_70 ?_
        refine t_lvI hd (fun v14 hd => ?_)
        refine v_istore_n (lv2 := [(3, .int v14), (0, .ref am), (1, .int s3), (2, .int s8)]) X dX10_walkOn_71 3 rfl (by decide) rfl ?_
        refine v_aload_n X dX10_walkOn_72 1 0 rfl rfl ?_
        refine t_getA (j := 25) X rfl fl_X10_87 dX10_walkOn_73 ?_
        refine v_iload_n X dX10_walkOn_76 2 1 rfl rfl ?_
        refine t_iald (j := 25) X hd rfl dX10_walkOn_77 (fun v15 hd => ?_)
        refine v_bipush (v := 10) X dX10_walkOn_78 (by decide) ?_
        refine v_idiv X dX10_walkOn_80 (by decide) ?_
        refine v_iload_n X dX10_walkOn_81 3 2 rfl rfl ?_
        refine v_iconst (v := 2) X dX10_walkOn_82 (by decide) ?_
        obtain ⟨u16, m1, hd, hd2⟩ := TM.bind_some hd
        have KJ : V K 5 (mkM am hn m1) 99 [(0, .ref am), (1, .int s3), (2, .int s8), (3, .int v14)] [.int u16, .int (v15 / 10)] := by
          clear hd
          have hd := hd2
          refine v_iadd X dX10_walkOn_99 ?_
          refine t_lvI hd (fun v17 hd => ?_)
          refine v_istore (lv2 := [(4, .int v17), (0, .ref am), (1, .int s3), (2, .int s8), (3, .int v14)]) X dX10_walkOn_100 (by decide) rfl ?_
          refine v_aload_n X dX10_walkOn_102 1 0 rfl rfl ?_
          refine v_iload_n X dX10_walkOn_103 4 3 rfl rfl ?_
          refine v_iload X dX10_walkOn_104 0 rfl ?_
          refine t_callV X hK hd (ct_X10_isWalked _ am v14 v17) (lw_V q2152 q2154 qs79 q120 q2155) ⟨rfl, dn_X10_isWalked⟩ rfl ⟨by decide, by decide⟩ rfl (Nat.le_of_ble_eq_true rfl) dX10_walkOn_106 (fun v18 ms hd => ?_)
          show V K 5 (mkM am hn ms) 109 [(4, .int v17), (0, .ref am), (1, .int s3), (2, .int s8), (3, .int v14)] [.int (b2i v18)]
          obtain ⟨u19, m1, hd, hd2⟩ := TM.bind_some hd
          have KJ : V K 5 (mkM am hn m1) 184 [(0, .ref am), (1, .int s3), (2, .int s8)] [] := by
            clear hd
            have hd := hd2
            refine t_iincL (lv2 := fun v20 => [(2, .int v20), (0, .ref am), (1, .int s3)]) X hd dX10_walkOn_184 2 rfl (by decide : Int32.ofInt 1 = 1) (by decide) (fun v20 => rfl) (fun v20 hd => ?_)
            refine v_goto (tgt := 37) X dX10_walkOn_187 (by decide) ?_
            exact v_loc [1, 2, 0] rfl (Tlp_in (P := fun (s8 : Int32) m => V K 5 (mkM am hn m) 37 [(0, .ref am), (1, .int s3), (2, .int s8)] []) hd ih9)
          clear hd2
          refine v_ifZ_eq (tgt := 184) X dX10_walkOn_109 (by decide) (fun q => ?_) (fun q => ?_)
          · have hd := Tcnd_f q hd
            exact v_loc [1, 2, 3] rfl (t_at (P := fun (u19 : Unit) m => V K 5 (mkM am hn m) 184 [(0, .ref am), (1, .int s3), (2, .int s8)] []) hd KJ)
          · have hd := Tcnd_t q hd
            refine v_aload_n X dX10_walkOn_112 1 0 rfl rfl ?_
            refine t_getA (j := 23) X rfl fl_X10_81 dX10_walkOn_113 ?_
            refine v_bipush (v := 10) X dX10_walkOn_116 (by decide) ?_
            refine v_iload X dX10_walkOn_118 0 rfl ?_
            refine v_imul X dX10_walkOn_120 ?_
            refine v_iload_n X dX10_walkOn_121 4 3 rfl rfl ?_
            refine v_iadd X dX10_walkOn_122 ?_
            refine t_iald (j := 23) X hd rfl dX10_walkOn_123 (fun v21 hd => ?_)
            refine v_if_ne (tgt := 184) X dX10_walkOn_124 (by decide) (fun q => ?_) (fun q => ?_)
            · have hd := Tite_f q hd
              exact v_loc [1, 2, 3] rfl (t_at (P := fun (u19 : Unit) m => V K 5 (mkM am hn m) 184 [(0, .ref am), (1, .int s3), (2, .int s8)] []) hd KJ)
            · have hd := Tite_t q hd
              refine v_aload_n X dX10_walkOn_127 1 0 rfl rfl ?_
              refine t_getA (j := 30) X rfl fl_X10_102 dX10_walkOn_128 ?_
              refine v_bipush (v := 10) X dX10_walkOn_131 (by decide) ?_
              refine v_iload X dX10_walkOn_133 0 rfl ?_
              refine v_imul X dX10_walkOn_135 ?_
              refine v_iload_n X dX10_walkOn_136 4 3 rfl rfl ?_
              refine v_iadd X dX10_walkOn_137 ?_
              refine t_zald (j := 30) X hd rfl dX10_walkOn_138 (fun v22 hd => ?_)
              refine v_if_eq (tgt := 145) X dX10_walkOn_139 (by decide) (fun q => ?_) (fun q => ?_)
              · have hd := Tite_t q hd
                refine v_aload_n X dX10_walkOn_145 1 0 rfl rfl ?_
                refine t_getA (j := 30) X rfl fl_X10_102 dX10_walkOn_146 ?_
                refine v_bipush (v := 10) X dX10_walkOn_149 (by decide) ?_
                refine v_iload X dX10_walkOn_151 0 rfl ?_
                refine v_imul X dX10_walkOn_153 ?_
                refine v_iload_n X dX10_walkOn_154 4 3 rfl rfl ?_
                refine v_iadd X dX10_walkOn_155 ?_
                refine v_iconst (v := 1) X dX10_walkOn_156 (by decide) ?_
                refine t_zast (j := 30) X hd rfl rfl dX10_walkOn_157 (fun ms hd => ?_)
                refine v_aload_n X dX10_walkOn_158 1 0 rfl rfl ?_
                refine t_getA (j := 25) X rfl fl_X10_87 dX10_walkOn_159 ?_
                refine v_aload_n X dX10_walkOn_162 1 0 rfl rfl ?_
                refine t_getI X hd rfl fl_X10_414 dX10_walkOn_163 (fun v23 hd => ?_)
                refine v_bipush (v := 10) X dX10_walkOn_166 (by decide) ?_
                refine v_iload X dX10_walkOn_168 0 rfl ?_
                refine v_imul X dX10_walkOn_170 ?_
                refine v_iload_n X dX10_walkOn_171 4 3 rfl rfl ?_
                refine v_iadd X dX10_walkOn_172 ?_
                refine t_iast (j := 25) X hd rfl dX10_walkOn_173 (fun ms hd => ?_)
                refine v_aload_n X dX10_walkOn_174 1 0 rfl rfl ?_
                refine v_dup X dX10_walkOn_175 rfl ?_
                refine t_getI X hd rfl fl_X10_414 dX10_walkOn_176 (fun v24 hd => ?_)
                refine v_iconst (v := 1) X dX10_walkOn_179 (by decide) ?_
                refine v_iadd X dX10_walkOn_180 ?_
                refine t_putI X hd rfl fp_X10_414 dX10_walkOn_181 (fun ms hd => ?_)
                exact v_loc [1, 2, 3] rfl (t_at (P := fun (u19 : Unit) m => V K 5 (mkM am hn m) 184 [(0, .ref am), (1, .int s3), (2, .int s8)] []) hd KJ)
              · have hd := Tite_f q hd
                refine v_goto (tgt := 184) X dX10_walkOn_142 (by decide) ?_
                exact v_loc [1, 2, 3] rfl (t_at (P := fun (u19 : Unit) m => V K 5 (mkM am hn m) 184 [(0, .ref am), (1, .int s3), (2, .int s8)] []) hd KJ)
        clear hd2
        refine v_icmp_ne (tgt := 90) X dX10_walkOn_83 (by decide) (fun q => ?_) (fun q => ?_)
        · have hd := Tite_f q hd
          refine v_iload_n X dX10_walkOn_90 3 2 rfl rfl ?_
          refine v_if_ne (tgt := 98) X dX10_walkOn_91 (by decide) (fun q => ?_) (fun q => ?_)
          · have hd := Tite_f q hd
            refine v_iconst (v := 0) X dX10_walkOn_98 (by decide) ?_
            exact v_loc [1, 2, 3, 0] rfl (t_at (P := fun (u16 : Int32) m => V K 5 (mkM am hn m) 99 [(0, .ref am), (1, .int s3), (2, .int s8), (3, .int v14)] [.int u16, .int (v15 / 10)]) hd KJ)
          · have hd := Tite_t q hd
            refine v_iconst (v := (-1)) X dX10_walkOn_94 (by decide) ?_
            refine v_goto (tgt := 99) X dX10_walkOn_95 (by decide) ?_
            exact v_loc [1, 2, 3, 0] rfl (t_at (P := fun (u16 : Int32) m => V K 5 (mkM am hn m) 99 [(0, .ref am), (1, .int s3), (2, .int s8), (3, .int v14)] [.int u16, .int (v15 / 10)]) hd KJ)
        · have hd := Tite_t q hd
          refine v_iconst (v := 1) X dX10_walkOn_86 (by decide) ?_
          refine v_goto (tgt := 99) X dX10_walkOn_87 (by decide) ?_
          exact v_loc [1, 2, 3, 0] rfl (t_at (P := fun (u16 : Int32) m => V K 5 (mkM am hn m) 99 [(0, .ref am), (1, .int s3), (2, .int s8), (3, .int v14)] [.int u16, .int (v15 / 10)]) hd KJ)
      clear hd2
      refine v_icmp_ne (tgt := 60) X dX10_walkOn_53 (by decide) (fun q => ?_) (fun q => ?_)
      · have hd := Tite_f q hd
        refine v_iload_n X dX10_walkOn_60 2 2 rfl rfl ?_
        refine v_iconst (v := 3) X dX10_walkOn_61 (by decide) ?_
        refine v_icmp_ne (tgt := 69) X dX10_walkOn_62 (by decide) (fun q => ?_) (fun q => ?_)
        · have hd := Tite_f q hd
          refine v_iconst (v := 0) X dX10_walkOn_69 (by decide) ?_
          exact v_loc [0, 1, 2] rfl (t_at (P := fun (u13 : Int32) m => V K 5 (mkM am hn m) 70 [(0, .ref am), (1, .int s3), (2, .int s8)] [.int u13, .int (v12 - v12 / 10 * 10)]) hd KJ)
        · have hd := Tite_t q hd
          refine v_iconst (v := (-1)) X dX10_walkOn_65 (by decide) ?_
          refine v_goto (tgt := 70) X dX10_walkOn_66 (by decide) ?_
          exact v_loc [0, 1, 2] rfl (t_at (P := fun (u13 : Int32) m => V K 5 (mkM am hn m) 70 [(0, .ref am), (1, .int s3), (2, .int s8)] [.int u13, .int (v12 - v12 / 10 * 10)]) hd KJ)
      · have hd := Tite_t q hd
        refine v_iconst (v := 1) X dX10_walkOn_56 (by decide) ?_
        refine v_goto (tgt := 70) X dX10_walkOn_57 (by decide) ?_
        exact v_loc [0, 1, 2] rfl (t_at (P := fun (u13 : Int32) m => V K 5 (mkM am hn m) 70 [(0, .ref am), (1, .int s3), (2, .int s8)] [.int u13, .int (v12 - v12 / 10 * 10)]) hd KJ)
def dkwX10_reach_6 : List UInt8 := [153, 0, 6, 132, 2, 1, 132, 3, 1, 167, 255, 235, 28, 172]
abbrev dktX10_reach_6 : List UInt8 := dkwX10_reach_6 ++ []
def dkwX10_reach_5 : List UInt8 := [167, 255, 230, 167, 0, 7, 42, 182, 1, 176, 3, 62, 29, 16, 100, 162, 0, 21, 42, 180, 0, 102, 29, 51]
abbrev dktX10_reach_5 : List UInt8 := dkwX10_reach_5 ++ dktX10_reach_6
def dkwX10_reach_4 : List UInt8 := [180, 1, 158, 162, 0, 24, 42, 180, 0, 102, 42, 180, 0, 87, 29, 46, 16, 100, 112, 4, 84, 132, 3, 1]
abbrev dktX10_reach_4 : List UInt8 := dkwX10_reach_4 ++ dktX10_reach_5
def dkwX10_reach_3 : List UInt8 := [132, 2, 1, 167, 255, 240, 3, 61, 27, 4, 160, 0, 43, 42, 2, 182, 1, 164, 87, 3, 62, 29, 42]
abbrev dktX10_reach_3 : List UInt8 := dkwX10_reach_3 ++ dktX10_reach_4
def dkwX10_reach_2 : List UInt8 := [16, 254, 172, 42, 182, 1, 125, 3, 61, 28, 16, 100, 162, 0, 16, 42, 180, 0, 102, 28, 3, 84]
abbrev dktX10_reach_2 : List UInt8 := dkwX10_reach_2 ++ dktX10_reach_3
def dkwX10_reach_1 : List UInt8 := [17, 1, 84, 46, 2, 160, 0, 5, 2, 172, 27, 4, 160, 0, 14, 42, 182, 0, 211, 8, 164, 0, 6]
abbrev dktX10_reach_1 : List UInt8 := dkwX10_reach_1 ++ dktX10_reach_2
def dkwX10_reach_0 : List UInt8 := [42, 3, 181, 0, 108, 42, 182, 0, 200, 27, 3, 4, 184, 0, 187, 153, 0, 15, 42, 180, 0, 13]
abbrev dktX10_reach_0 : List UInt8 := dkwX10_reach_0 ++ dktX10_reach_1
theorem dksX10_reach_0 : cX10_reach.data.toList.drop 0 = dktX10_reach_0 := by decide +kernel
theorem dksX10_reach_1 : cX10_reach.data.toList.drop 22 = dktX10_reach_1 := dk_seg dksX10_reach_0 22 rfl rfl
theorem dksX10_reach_2 : cX10_reach.data.toList.drop 45 = dktX10_reach_2 := dk_seg dksX10_reach_1 23 rfl rfl
theorem dksX10_reach_3 : cX10_reach.data.toList.drop 67 = dktX10_reach_3 := dk_seg dksX10_reach_2 22 rfl rfl
theorem dksX10_reach_4 : cX10_reach.data.toList.drop 90 = dktX10_reach_4 := dk_seg dksX10_reach_3 23 rfl rfl
theorem dksX10_reach_5 : cX10_reach.data.toList.drop 114 = dktX10_reach_5 := dk_seg dksX10_reach_4 24 rfl rfl
theorem dksX10_reach_6 : cX10_reach.data.toList.drop 138 = dktX10_reach_6 := dk_seg dksX10_reach_5 24 rfl rfl
theorem dX10_reach_0 : decode cX10_reach 0 = .ok (.aload_n 0, 1) := dk_42 (dk_at dksX10_reach_0 0 rfl rfl)
theorem dX10_reach_1 : decode cX10_reach 1 = .ok (.iconst 0, 1) := dk_3 (dk_at dksX10_reach_0 1 rfl rfl)
theorem dX10_reach_2 : decode cX10_reach 2 = .ok (.putfield 108, 3) := dk_181 0 108 (dk_at dksX10_reach_0 2 rfl rfl)
theorem dX10_reach_5 : decode cX10_reach 5 = .ok (.aload_n 0, 1) := dk_42 (dk_at dksX10_reach_0 5 rfl rfl)
theorem dX10_reach_6 : decode cX10_reach 6 = .ok (.invokevirtual 200, 3) := dk_182 0 200 (dk_at dksX10_reach_0 6 rfl rfl)
theorem dX10_reach_9 : decode cX10_reach 9 = .ok (.iload_n 1, 1) := dk_27 (dk_at dksX10_reach_0 9 rfl rfl)
theorem dX10_reach_10 : decode cX10_reach 10 = .ok (.iconst 0, 1) := dk_3 (dk_at dksX10_reach_0 10 rfl rfl)
theorem dX10_reach_11 : decode cX10_reach 11 = .ok (.iconst 1, 1) := dk_4 (dk_at dksX10_reach_0 11 rfl rfl)
theorem dX10_reach_12 : decode cX10_reach 12 = .ok (.invokestatic 187, 3) := dk_184 0 187 (dk_at dksX10_reach_0 12 rfl rfl)
theorem dX10_reach_15 : decode cX10_reach 15 = .ok (.ifCond .eq 15, 3) := dk_153 0 15 (dk_at dksX10_reach_0 15 rfl rfl)
theorem dX10_reach_18 : decode cX10_reach 18 = .ok (.aload_n 0, 1) := dk_42 (dk_at dksX10_reach_0 18 rfl rfl)
theorem dX10_reach_19 : decode cX10_reach 19 = .ok (.getfield 13, 3) := dk_180 0 13 (dk_at dksX10_reach_0 19 rfl rfl)
theorem dX10_reach_22 : decode cX10_reach 22 = .ok (.sipush 340, 3) := dk_17 1 84 (dk_at dksX10_reach_1 0 rfl rfl)
theorem dX10_reach_25 : decode cX10_reach 25 = .ok (.iaload, 1) := dk_46 (dk_at dksX10_reach_1 3 rfl rfl)
theorem dX10_reach_26 : decode cX10_reach 26 = .ok (.iconst (-1), 1) := dk_2 (dk_at dksX10_reach_1 4 rfl rfl)
theorem dX10_reach_27 : decode cX10_reach 27 = .ok (.if_icmp .ne 5, 3) := dk_160 0 5 (dk_at dksX10_reach_1 5 rfl rfl)
theorem dX10_reach_30 : decode cX10_reach 30 = .ok (.iconst (-1), 1) := dk_2 (dk_at dksX10_reach_1 8 rfl rfl)
theorem dX10_reach_31 : decode cX10_reach 31 = .ok (.ireturn, 1) := dk_172 (dk_at dksX10_reach_1 9 rfl rfl)
theorem dX10_reach_32 : decode cX10_reach 32 = .ok (.iload_n 1, 1) := dk_27 (dk_at dksX10_reach_1 10 rfl rfl)
theorem dX10_reach_33 : decode cX10_reach 33 = .ok (.iconst 1, 1) := dk_4 (dk_at dksX10_reach_1 11 rfl rfl)
theorem dX10_reach_34 : decode cX10_reach 34 = .ok (.if_icmp .ne 14, 3) := dk_160 0 14 (dk_at dksX10_reach_1 12 rfl rfl)
theorem dX10_reach_37 : decode cX10_reach 37 = .ok (.aload_n 0, 1) := dk_42 (dk_at dksX10_reach_1 15 rfl rfl)
theorem dX10_reach_38 : decode cX10_reach 38 = .ok (.invokevirtual 211, 3) := dk_182 0 211 (dk_at dksX10_reach_1 16 rfl rfl)
theorem dX10_reach_41 : decode cX10_reach 41 = .ok (.iconst 5, 1) := dk_8 (dk_at dksX10_reach_1 19 rfl rfl)
theorem dX10_reach_42 : decode cX10_reach 42 = .ok (.if_icmp .le 6, 3) := dk_164 0 6 (dk_at dksX10_reach_1 20 rfl rfl)
theorem dX10_reach_45 : decode cX10_reach 45 = .ok (.bipush (-2), 2) := dk_16 254 (dk_at dksX10_reach_2 0 rfl rfl)
theorem dX10_reach_47 : decode cX10_reach 47 = .ok (.ireturn, 1) := dk_172 (dk_at dksX10_reach_2 2 rfl rfl)
theorem dX10_reach_48 : decode cX10_reach 48 = .ok (.aload_n 0, 1) := dk_42 (dk_at dksX10_reach_2 3 rfl rfl)
theorem dX10_reach_49 : decode cX10_reach 49 = .ok (.invokevirtual 381, 3) := dk_182 1 125 (dk_at dksX10_reach_2 4 rfl rfl)
theorem dX10_reach_52 : decode cX10_reach 52 = .ok (.iconst 0, 1) := dk_3 (dk_at dksX10_reach_2 7 rfl rfl)
theorem dX10_reach_53 : decode cX10_reach 53 = .ok (.istore_n 2, 1) := dk_61 (dk_at dksX10_reach_2 8 rfl rfl)
theorem dX10_reach_54 : decode cX10_reach 54 = .ok (.iload_n 2, 1) := dk_28 (dk_at dksX10_reach_2 9 rfl rfl)
theorem dX10_reach_55 : decode cX10_reach 55 = .ok (.bipush 100, 2) := dk_16 100 (dk_at dksX10_reach_2 10 rfl rfl)
theorem dX10_reach_57 : decode cX10_reach 57 = .ok (.if_icmp .ge 16, 3) := dk_162 0 16 (dk_at dksX10_reach_2 12 rfl rfl)
theorem dX10_reach_60 : decode cX10_reach 60 = .ok (.aload_n 0, 1) := dk_42 (dk_at dksX10_reach_2 15 rfl rfl)
theorem dX10_reach_61 : decode cX10_reach 61 = .ok (.getfield 102, 3) := dk_180 0 102 (dk_at dksX10_reach_2 16 rfl rfl)
theorem dX10_reach_64 : decode cX10_reach 64 = .ok (.iload_n 2, 1) := dk_28 (dk_at dksX10_reach_2 19 rfl rfl)
theorem dX10_reach_65 : decode cX10_reach 65 = .ok (.iconst 0, 1) := dk_3 (dk_at dksX10_reach_2 20 rfl rfl)
theorem dX10_reach_66 : decode cX10_reach 66 = .ok (.bastore, 1) := dk_84 (dk_at dksX10_reach_2 21 rfl rfl)
theorem dX10_reach_67 : decode cX10_reach 67 = .ok (.iinc 2 1, 3) := dk_132 2 1 (dk_at dksX10_reach_3 0 rfl rfl)
theorem dX10_reach_70 : decode cX10_reach 70 = .ok (.goto (-16), 3) := dk_167 255 240 (dk_at dksX10_reach_3 3 rfl rfl)
theorem dX10_reach_73 : decode cX10_reach 73 = .ok (.iconst 0, 1) := dk_3 (dk_at dksX10_reach_3 6 rfl rfl)
theorem dX10_reach_74 : decode cX10_reach 74 = .ok (.istore_n 2, 1) := dk_61 (dk_at dksX10_reach_3 7 rfl rfl)
theorem dX10_reach_75 : decode cX10_reach 75 = .ok (.iload_n 1, 1) := dk_27 (dk_at dksX10_reach_3 8 rfl rfl)
theorem dX10_reach_76 : decode cX10_reach 76 = .ok (.iconst 1, 1) := dk_4 (dk_at dksX10_reach_3 9 rfl rfl)
theorem dX10_reach_77 : decode cX10_reach 77 = .ok (.if_icmp .ne 43, 3) := dk_160 0 43 (dk_at dksX10_reach_3 10 rfl rfl)
theorem dX10_reach_80 : decode cX10_reach 80 = .ok (.aload_n 0, 1) := dk_42 (dk_at dksX10_reach_3 13 rfl rfl)
theorem dX10_reach_81 : decode cX10_reach 81 = .ok (.iconst (-1), 1) := dk_2 (dk_at dksX10_reach_3 14 rfl rfl)
theorem dX10_reach_82 : decode cX10_reach 82 = .ok (.invokevirtual 420, 3) := dk_182 1 164 (dk_at dksX10_reach_3 15 rfl rfl)
theorem dX10_reach_85 : decode cX10_reach 85 = .ok (.pop, 1) := dk_87 (dk_at dksX10_reach_3 18 rfl rfl)
theorem dX10_reach_86 : decode cX10_reach 86 = .ok (.iconst 0, 1) := dk_3 (dk_at dksX10_reach_3 19 rfl rfl)
theorem dX10_reach_87 : decode cX10_reach 87 = .ok (.istore_n 3, 1) := dk_62 (dk_at dksX10_reach_3 20 rfl rfl)
theorem dX10_reach_88 : decode cX10_reach 88 = .ok (.iload_n 3, 1) := dk_29 (dk_at dksX10_reach_3 21 rfl rfl)
theorem dX10_reach_89 : decode cX10_reach 89 = .ok (.aload_n 0, 1) := dk_42 (dk_at dksX10_reach_3 22 rfl rfl)
theorem dX10_reach_90 : decode cX10_reach 90 = .ok (.getfield 414, 3) := dk_180 1 158 (dk_at dksX10_reach_4 0 rfl rfl)
theorem dX10_reach_93 : decode cX10_reach 93 = .ok (.if_icmp .ge 24, 3) := dk_162 0 24 (dk_at dksX10_reach_4 3 rfl rfl)
theorem dX10_reach_96 : decode cX10_reach 96 = .ok (.aload_n 0, 1) := dk_42 (dk_at dksX10_reach_4 6 rfl rfl)
theorem dX10_reach_97 : decode cX10_reach 97 = .ok (.getfield 102, 3) := dk_180 0 102 (dk_at dksX10_reach_4 7 rfl rfl)
theorem dX10_reach_100 : decode cX10_reach 100 = .ok (.aload_n 0, 1) := dk_42 (dk_at dksX10_reach_4 10 rfl rfl)
theorem dX10_reach_101 : decode cX10_reach 101 = .ok (.getfield 87, 3) := dk_180 0 87 (dk_at dksX10_reach_4 11 rfl rfl)
theorem dX10_reach_104 : decode cX10_reach 104 = .ok (.iload_n 3, 1) := dk_29 (dk_at dksX10_reach_4 14 rfl rfl)
theorem dX10_reach_105 : decode cX10_reach 105 = .ok (.iaload, 1) := dk_46 (dk_at dksX10_reach_4 15 rfl rfl)
theorem dX10_reach_106 : decode cX10_reach 106 = .ok (.bipush 100, 2) := dk_16 100 (dk_at dksX10_reach_4 16 rfl rfl)
theorem dX10_reach_108 : decode cX10_reach 108 = .ok (.irem, 1) := dk_112 (dk_at dksX10_reach_4 18 rfl rfl)
theorem dX10_reach_109 : decode cX10_reach 109 = .ok (.iconst 1, 1) := dk_4 (dk_at dksX10_reach_4 19 rfl rfl)
theorem dX10_reach_110 : decode cX10_reach 110 = .ok (.bastore, 1) := dk_84 (dk_at dksX10_reach_4 20 rfl rfl)
theorem dX10_reach_111 : decode cX10_reach 111 = .ok (.iinc 3 1, 3) := dk_132 3 1 (dk_at dksX10_reach_4 21 rfl rfl)
theorem dX10_reach_114 : decode cX10_reach 114 = .ok (.goto (-26), 3) := dk_167 255 230 (dk_at dksX10_reach_5 0 rfl rfl)
theorem dX10_reach_117 : decode cX10_reach 117 = .ok (.goto 7, 3) := dk_167 0 7 (dk_at dksX10_reach_5 3 rfl rfl)
theorem dX10_reach_120 : decode cX10_reach 120 = .ok (.aload_n 0, 1) := dk_42 (dk_at dksX10_reach_5 6 rfl rfl)
theorem dX10_reach_121 : decode cX10_reach 121 = .ok (.invokevirtual 432, 3) := dk_182 1 176 (dk_at dksX10_reach_5 7 rfl rfl)
theorem dX10_reach_124 : decode cX10_reach 124 = .ok (.iconst 0, 1) := dk_3 (dk_at dksX10_reach_5 10 rfl rfl)
theorem dX10_reach_125 : decode cX10_reach 125 = .ok (.istore_n 3, 1) := dk_62 (dk_at dksX10_reach_5 11 rfl rfl)
theorem dX10_reach_126 : decode cX10_reach 126 = .ok (.iload_n 3, 1) := dk_29 (dk_at dksX10_reach_5 12 rfl rfl)
theorem dX10_reach_127 : decode cX10_reach 127 = .ok (.bipush 100, 2) := dk_16 100 (dk_at dksX10_reach_5 13 rfl rfl)
theorem dX10_reach_129 : decode cX10_reach 129 = .ok (.if_icmp .ge 21, 3) := dk_162 0 21 (dk_at dksX10_reach_5 15 rfl rfl)
theorem dX10_reach_132 : decode cX10_reach 132 = .ok (.aload_n 0, 1) := dk_42 (dk_at dksX10_reach_5 18 rfl rfl)
theorem dX10_reach_133 : decode cX10_reach 133 = .ok (.getfield 102, 3) := dk_180 0 102 (dk_at dksX10_reach_5 19 rfl rfl)
theorem dX10_reach_136 : decode cX10_reach 136 = .ok (.iload_n 3, 1) := dk_29 (dk_at dksX10_reach_5 22 rfl rfl)
theorem dX10_reach_137 : decode cX10_reach 137 = .ok (.baload, 1) := dk_51 (dk_at dksX10_reach_5 23 rfl rfl)
theorem dX10_reach_138 : decode cX10_reach 138 = .ok (.ifCond .eq 6, 3) := dk_153 0 6 (dk_at dksX10_reach_6 0 rfl rfl)
theorem dX10_reach_141 : decode cX10_reach 141 = .ok (.iinc 2 1, 3) := dk_132 2 1 (dk_at dksX10_reach_6 3 rfl rfl)
theorem dX10_reach_144 : decode cX10_reach 144 = .ok (.iinc 3 1, 3) := dk_132 3 1 (dk_at dksX10_reach_6 6 rfl rfl)
theorem dX10_reach_147 : decode cX10_reach 147 = .ok (.goto (-21), 3) := dk_167 255 235 (dk_at dksX10_reach_6 9 rfl rfl)
theorem dX10_reach_150 : decode cX10_reach 150 = .ok (.iload_n 2, 1) := dk_28 (dk_at dksX10_reach_6 12 rfl rfl)
theorem dX10_reach_151 : decode cX10_reach 151 = .ok (.ireturn, 1) := dk_172 (dk_at dksX10_reach_6 13 rfl rfl)
theorem dn_X10_reach : yX10_reach.cls ≠ "java/lang/invoke/MethodHandle" ∧ yX10_reach.cls ≠ "java/lang/invoke/VarHandle" ∧ (parseMethodDescriptor yX10_reach.desc).map (fun d => d.parameters.length) = some 1 := by decide +kernel
noncomputable def M_X10_reach (p1 : Int32) : TM Int32 := TM.bind (sI 0 0) (fun _ => TM.bind (M_X10_lay) (fun v1 => TM.bind (M_X10_isIn p1 0 1) (fun v2 => cond v2 (TM.bind (tA 14 704 340) (fun v3 => if v3 = (-1) then TM.pure (-1) else if p1 = 1 then TM.bind (M_X10_doors) (fun v28 => if v28 ≤ 5 then TM.bind (M_X10_takeNow) (fun v29 => TM.bind (TM.loop (S := Int32) (E := Unit) (fun s30 => if 100 ≤ s30 then TM.pure (Sum.inr ()) else TM.bind (sA 58 100 s30 0) (fun _ => TM.lv (s30 + 1) (fun v34 => TM.pure (Sum.inl v34)))) 0) (fun e33 => TM.bind ((if p1 = 1 then TM.bind (M_X10_search (-1)) (fun v45 => TM.bind (TM.loop (S := Int32) (E := Unit) (fun s46 => TM.bind (tI 55) (fun v50 => if v50 ≤ s46 then TM.pure (Sum.inr ()) else TM.bind (tA 50 24300 s46) (fun v51 => TM.bind (sA 58 100 (v51 - v51 / 100 * 100) 1) (fun _ => TM.lv (s46 + 1) (fun v52 => TM.pure (Sum.inl v52)))))) 0) (fun e49 => TM.pure ())) else TM.bind (M_X10_walkOn) (fun v44 => TM.pure ()) : TM (Unit))) (fun u35 => TM.bind (TM.loop (S := Int32 × Int32) (E := Int32) (fun s36 => if 100 ≤ s36.2 then TM.pure (Sum.inr s36.1) else TM.bind (tA 58 100 s36.2) (fun v40 => TM.bind ((if v40 = 0 then TM.pure s36.1 else TM.lv (s36.1 + 1) (fun v43 => TM.pure v43) : TM (Int32))) (fun u41 => TM.lv (s36.2 + 1) (fun v42 => TM.pure (Sum.inl (u41, v42)))))) (0, 0)) (fun e39 => TM.pure e39)))) else TM.pure (-2)) else TM.bind (M_X10_takeNow) (fun v4 => TM.bind (TM.loop (S := Int32) (E := Unit) (fun s5 => if 100 ≤ s5 then TM.pure (Sum.inr ()) else TM.bind (sA 58 100 s5 0) (fun _ => TM.lv (s5 + 1) (fun v9 => TM.pure (Sum.inl v9)))) 0) (fun e8 => TM.bind ((if p1 = 1 then TM.bind (M_X10_search (-1)) (fun v20 => TM.bind (TM.loop (S := Int32) (E := Unit) (fun s21 => TM.bind (tI 55) (fun v25 => if v25 ≤ s21 then TM.pure (Sum.inr ()) else TM.bind (tA 50 24300 s21) (fun v26 => TM.bind (sA 58 100 (v26 - v26 / 100 * 100) 1) (fun _ => TM.lv (s21 + 1) (fun v27 => TM.pure (Sum.inl v27)))))) 0) (fun e24 => TM.pure ())) else TM.bind (M_X10_walkOn) (fun v19 => TM.pure ()) : TM (Unit))) (fun u10 => TM.bind (TM.loop (S := Int32 × Int32) (E := Int32) (fun s11 => if 100 ≤ s11.2 then TM.pure (Sum.inr s11.1) else TM.bind (tA 58 100 s11.2) (fun v15 => TM.bind ((if v15 = 0 then TM.pure s11.1 else TM.lv (s11.1 + 1) (fun v18 => TM.pure v18) : TM (Int32))) (fun u16 => TM.lv (s11.2 + 1) (fun v17 => TM.pure (Sum.inl (u16, v17)))))) (0, 0)) (fun e14 => TM.pure e14)))))) (TM.pure (-1)))))
set_option maxHeartbeats 4000000 in
theorem ct_X10_reach (G : gG) (am : Nat) (p1 : Int32) : gCtM G am yX10_reach cX10_reach 4 (some .int) 7 176 [.ref am, .int p1] (M_X10_reach p1) (fun x : Int32 => some (.int x)) := by
  refine gCtM.of (by decide) (Nat.le_of_ble_eq_true rfl) (fun K hn ms ms' r hG X hK hd ho => ?_)
  subst hG
  have X : gX K cX10_reach 4 "BitingDoorsModel" "reach" (some .int) 7 176 := X
  show V K 4 (mkM am hn ms) 0 [(0, .ref am), (1, .int p1)] []
  unfold M_X10_reach at hd
  refine v_aload_n X dX10_reach_0 0 0 rfl rfl ?_
  refine v_iconst (v := 0) X dX10_reach_1 (by decide) ?_
  refine t_putI X hd rfl fp_X10_108 dX10_reach_2 (fun ms hd => ?_)
  refine v_aload_n X dX10_reach_5 0 0 rfl rfl ?_
  refine t_callV X hK hd (ct_X10_lay _ am) (lw_V q1868 q1870 qs37 q120 q1871) ⟨rfl, dn_X10_lay⟩ rfl ⟨by decide, by decide⟩ rfl (Nat.le_of_ble_eq_true rfl) dX10_reach_6 (fun v1 ms hd => ?_)
  show V K 4 (mkM am hn ms) 9 [(0, .ref am), (1, .int p1)] []
  refine v_iload_n X dX10_reach_9 1 1 rfl rfl ?_
  refine v_iconst (v := 0) X dX10_reach_10 (by decide) ?_
  refine v_iconst (v := 1) X dX10_reach_11 (by decide) ?_
  refine t_callS X hK hd (ct_X10_isIn _ am p1 0 1) (lw_S q1940 q1941 q120 q1942) dn_X10_isIn rfl ⟨by decide, by decide⟩ rfl (Nat.le_of_ble_eq_true rfl) dX10_reach_12 (fun v2 ms hd => ?_)
  show V K 4 (mkM am hn ms) 15 [(0, .ref am), (1, .int p1)] [.int (b2i v2)]
  refine v_ifZ_eq (tgt := 30) X dX10_reach_15 (by decide) (fun q => ?_) (fun q => ?_)
  · have hd := Tcnd_f q hd
    refine v_iconst (v := (-1)) X dX10_reach_30 (by decide) ?_
    exact t_iret X hK hd ho dX10_reach_31
  · have hd := Tcnd_t q hd
    refine v_aload_n X dX10_reach_18 0 0 rfl rfl ?_
    refine t_getA (j := 1) X rfl fl_X10_13 dX10_reach_19 ?_
    refine v_sipush (v := 340) X dX10_reach_22 (by decide) ?_
    refine t_iald (j := 1) X hd rfl dX10_reach_25 (fun v3 hd => ?_)
    refine v_iconst (v := (-1)) X dX10_reach_26 (by decide) ?_
    refine v_icmp_ne (tgt := 32) X dX10_reach_27 (by decide) (fun q => ?_) (fun q => ?_)
    · have hd := Tite_f q hd
      refine v_iload_n X dX10_reach_32 1 1 rfl rfl ?_
      refine v_iconst (v := 1) X dX10_reach_33 (by decide) ?_
      refine v_icmp_ne (tgt := 48) X dX10_reach_34 (by decide) (fun q => ?_) (fun q => ?_)
      · have hd := Tite_f q hd
        refine v_aload_n X dX10_reach_48 0 0 rfl rfl ?_
        refine t_callV X hK hd (ct_X10_takeNow _ am) (lw_V q2144 q2146 qs77 q120 q2147) ⟨rfl, dn_X10_takeNow⟩ rfl ⟨by decide, by decide⟩ rfl (Nat.le_of_ble_eq_true rfl) dX10_reach_49 (fun v4 ms hd => ?_)
        show V K 4 (mkM am hn ms) 52 [(0, .ref am), (1, .int p1)] []
        refine v_iconst (v := 0) X dX10_reach_52 (by decide) ?_
        refine v_istore_n (lv2 := [(2, .int 0), (0, .ref am), (1, .int p1)]) X dX10_reach_53 2 rfl (by decide) rfl ?_
        obtain ⟨e8, m1, hd, hd2⟩ := TM.bind_some hd
        have KX : V K 4 (mkM am hn m1) 73 [(0, .ref am), (1, .int p1)] [] := by
          clear hd
          have hd := hd2
          refine v_iconst (v := 0) X dX10_reach_73 (by decide) ?_
          refine v_istore_n (lv2 := [(2, .int 0), (0, .ref am), (1, .int p1)]) X dX10_reach_74 2 rfl (by decide) rfl ?_
          refine v_iload_n X dX10_reach_75 2 1 rfl rfl ?_
          refine v_iconst (v := 1) X dX10_reach_76 (by decide) ?_
          obtain ⟨u10, m1, hd, hd2⟩ := TM.bind_some hd
          have KJ : V K 4 (mkM am hn m1) 124 [(0, .ref am), (2, .int 0)] [] := by
            clear hd
            have hd := hd2
            refine v_iconst (v := 0) X dX10_reach_124 (by decide) ?_
            refine v_istore_n (lv2 := [(3, .int 0), (0, .ref am), (2, .int 0)]) X dX10_reach_125 3 rfl (by decide) rfl ?_
            obtain ⟨e14, m1, hd, hd2⟩ := TM.bind_some hd
            have KX : V K 4 (mkM am hn m1) 150 [(2, .int e14)] [] := by
              clear hd
              have hd := hd2
              refine v_iload_n X dX10_reach_150 0 2 rfl rfl ?_
              exact t_iret X hK hd ho dX10_reach_151
            clear hd2
            refine v_loc [1, 2, 0] rfl ?_
            refine Tloop_ind hd (fun (s11 : Int32 × Int32) m => V K 4 (mkM am hn m) 126 [(0, .ref am), (2, .int s11.1), (3, .int s11.2)] []) (fun s11 ms x m2 hd ih12 ho13 => ?_)
            refine v_iload_n X dX10_reach_126 2 3 rfl rfl ?_
            refine v_bipush (v := 100) X dX10_reach_127 (by decide) ?_
            refine v_icmp_ge (tgt := 150) X dX10_reach_129 (by decide) (fun q => ?_) (fun q => ?_)
            · have hd := Tite_t q hd
              exact v_loc [1] rfl (t_at (P := fun (e14 : Int32) m => V K 4 (mkM am hn m) 150 [(2, .int e14)] []) (Tlp_out hd ho13) KX)
            · have hd := Tite_f q hd
              refine v_aload_n X dX10_reach_132 0 0 rfl rfl ?_
              refine t_getA (j := 30) X rfl fl_X10_102 dX10_reach_133 ?_
              refine v_iload_n X dX10_reach_136 2 3 rfl rfl ?_
              refine t_zald (j := 30) X hd rfl dX10_reach_137 (fun v15 hd => ?_)
              obtain ⟨u16, m1, hd, hd2⟩ := TM.bind_some hd
              have KJ : V K 4 (mkM am hn m1) 144 [(0, .ref am), (2, .int u16), (3, .int s11.2)] [] := by
                clear hd
                have hd := hd2
                refine t_iincL (lv2 := fun v17 => [(3, .int v17), (0, .ref am), (2, .int u16)]) X hd dX10_reach_144 2 rfl (by decide : Int32.ofInt 1 = 1) (by decide) (fun v17 => rfl) (fun v17 hd => ?_)
                refine v_goto (tgt := 126) X dX10_reach_147 (by decide) ?_
                exact v_loc [1, 2, 0] rfl (Tlp_in (P := fun (s11 : Int32 × Int32) m => V K 4 (mkM am hn m) 126 [(0, .ref am), (2, .int s11.1), (3, .int s11.2)] []) hd ih12)
              clear hd2
              refine v_if_eq (tgt := 144) X dX10_reach_138 (by decide) (fun q => ?_) (fun q => ?_)
              · have hd := Tite_t q hd
                exact v_loc [0, 1, 2] rfl (t_at (P := fun (u16 : Int32) m => V K 4 (mkM am hn m) 144 [(0, .ref am), (2, .int u16), (3, .int s11.2)] []) hd KJ)
              · have hd := Tite_f q hd
                refine t_iincL (lv2 := fun v18 => [(2, .int v18), (0, .ref am), (3, .int s11.2)]) X hd dX10_reach_141 1 rfl (by decide : Int32.ofInt 1 = 1) (by decide) (fun v18 => rfl) (fun v18 hd => ?_)
                exact v_loc [1, 0, 2] rfl (t_at (P := fun (u16 : Int32) m => V K 4 (mkM am hn m) 144 [(0, .ref am), (2, .int u16), (3, .int s11.2)] []) hd KJ)
          clear hd2
          refine v_icmp_ne (tgt := 120) X dX10_reach_77 (by decide) (fun q => ?_) (fun q => ?_)
          · have hd := Tite_f q hd
            refine v_aload_n X dX10_reach_120 1 0 rfl rfl ?_
            refine t_callV X hK hd (ct_X10_walkOn _ am) (lw_V q2264 q2266 qs96 q120 q2267) ⟨rfl, dn_X10_walkOn⟩ rfl ⟨by decide, by decide⟩ rfl (Nat.le_of_ble_eq_true rfl) dX10_reach_121 (fun v19 ms hd => ?_)
            show V K 4 (mkM am hn ms) 124 [(2, .int 0), (0, .ref am), (1, .int p1)] []
            exact v_loc [1, 0] rfl (t_at (P := fun (u10 : Unit) m => V K 4 (mkM am hn m) 124 [(0, .ref am), (2, .int 0)] []) hd KJ)
          · have hd := Tite_t q hd
            refine v_aload_n X dX10_reach_80 1 0 rfl rfl ?_
            refine v_iconst (v := (-1)) X dX10_reach_81 (by decide) ?_
            refine t_callV X hK hd (ct_X10_search _ am (-1)) (lw_V q2240 q2242 qs93 q120 q2243) ⟨rfl, dn_X10_search⟩ rfl ⟨by decide, by decide⟩ rfl (Nat.le_of_ble_eq_true rfl) dX10_reach_82 (fun v20 ms hd => ?_)
            show V K 4 (mkM am hn ms) 85 [(2, .int 0), (0, .ref am), (1, .int p1)] [.int v20]
            refine v_pop X dX10_reach_85 rfl ?_
            refine v_iconst (v := 0) X dX10_reach_86 (by decide) ?_
            refine v_istore_n (lv2 := [(3, .int 0), (2, .int 0), (0, .ref am), (1, .int p1)]) X dX10_reach_87 3 rfl (by decide) rfl ?_
            obtain ⟨e24, m1, hd, hd2⟩ := TM.bind_some hd
            have KX : V K 4 (mkM am hn m1) 117 [(0, .ref am), (2, .int 0)] [] := by
              clear hd
              have hd := hd2
              refine v_goto (tgt := 124) X dX10_reach_117 (by decide) ?_
              exact v_loc [0, 1] rfl (t_at (P := fun (u10 : Unit) m => V K 4 (mkM am hn m) 124 [(0, .ref am), (2, .int 0)] []) hd KJ)
            clear hd2
            refine v_loc [2, 1, 0] rfl ?_
            refine Tloop_ind hd (fun (s21 : Int32) m => V K 4 (mkM am hn m) 88 [(0, .ref am), (2, .int 0), (3, .int s21)] []) (fun s21 ms x m2 hd ih22 ho23 => ?_)
            refine v_iload_n X dX10_reach_88 2 3 rfl rfl ?_
            refine v_aload_n X dX10_reach_89 0 0 rfl rfl ?_
            refine t_getI X hd rfl fl_X10_414 dX10_reach_90 (fun v25 hd => ?_)
            refine v_icmp_ge (tgt := 117) X dX10_reach_93 (by decide) (fun q => ?_) (fun q => ?_)
            · have hd := Tite_t q hd
              exact v_loc [0, 1] rfl (t_at (P := fun (e24 : Unit) m => V K 4 (mkM am hn m) 117 [(0, .ref am), (2, .int 0)] []) (Tlp_out hd ho23) KX)
            · have hd := Tite_f q hd
              refine v_aload_n X dX10_reach_96 0 0 rfl rfl ?_
              refine t_getA (j := 30) X rfl fl_X10_102 dX10_reach_97 ?_
              refine v_aload_n X dX10_reach_100 0 0 rfl rfl ?_
              refine t_getA (j := 25) X rfl fl_X10_87 dX10_reach_101 ?_
              refine v_iload_n X dX10_reach_104 2 3 rfl rfl ?_
              refine t_iald (j := 25) X hd rfl dX10_reach_105 (fun v26 hd => ?_)
              refine v_bipush (v := 100) X dX10_reach_106 (by decide) ?_
              refine v_irem X dX10_reach_108 (by decide) ?_
              refine v_iconst (v := 1) X dX10_reach_109 (by decide) ?_
              refine t_zast (j := 30) X hd rfl rfl dX10_reach_110 (fun ms hd => ?_)
              refine t_iincL (lv2 := fun v27 => [(3, .int v27), (0, .ref am), (2, .int 0)]) X hd dX10_reach_111 2 rfl (by decide : Int32.ofInt 1 = 1) (by decide) (fun v27 => rfl) (fun v27 hd => ?_)
              refine v_goto (tgt := 88) X dX10_reach_114 (by decide) ?_
              exact v_loc [1, 2, 0] rfl (Tlp_in (P := fun (s21 : Int32) m => V K 4 (mkM am hn m) 88 [(0, .ref am), (2, .int 0), (3, .int s21)] []) hd ih22)
        clear hd2
        refine v_loc [1, 2, 0] rfl ?_
        refine Tloop_ind hd (fun (s5 : Int32) m => V K 4 (mkM am hn m) 54 [(0, .ref am), (1, .int p1), (2, .int s5)] []) (fun s5 ms x m2 hd ih6 ho7 => ?_)
        refine v_iload_n X dX10_reach_54 2 2 rfl rfl ?_
        refine v_bipush (v := 100) X dX10_reach_55 (by decide) ?_
        refine v_icmp_ge (tgt := 73) X dX10_reach_57 (by decide) (fun q => ?_) (fun q => ?_)
        · have hd := Tite_t q hd
          exact v_loc [0, 1] rfl (t_at (P := fun (e8 : Unit) m => V K 4 (mkM am hn m) 73 [(0, .ref am), (1, .int p1)] []) (Tlp_out hd ho7) KX)
        · have hd := Tite_f q hd
          refine v_aload_n X dX10_reach_60 0 0 rfl rfl ?_
          refine t_getA (j := 30) X rfl fl_X10_102 dX10_reach_61 ?_
          refine v_iload_n X dX10_reach_64 2 2 rfl rfl ?_
          refine v_iconst (v := 0) X dX10_reach_65 (by decide) ?_
          refine t_zast (j := 30) X hd rfl rfl dX10_reach_66 (fun ms hd => ?_)
          refine t_iincL (lv2 := fun v9 => [(2, .int v9), (0, .ref am), (1, .int p1)]) X hd dX10_reach_67 2 rfl (by decide : Int32.ofInt 1 = 1) (by decide) (fun v9 => rfl) (fun v9 hd => ?_)
          refine v_goto (tgt := 54) X dX10_reach_70 (by decide) ?_
          exact v_loc [1, 2, 0] rfl (Tlp_in (P := fun (s5 : Int32) m => V K 4 (mkM am hn m) 54 [(0, .ref am), (1, .int p1), (2, .int s5)] []) hd ih6)
      · have hd := Tite_t q hd
        refine v_aload_n X dX10_reach_37 0 0 rfl rfl ?_
        refine t_callV X hK hd (ct_X10_doors _ am) (lw_V q1986 q1988 qs57 q120 q1989) ⟨rfl, dn_X10_doors⟩ rfl ⟨by decide, by decide⟩ rfl (Nat.le_of_ble_eq_true rfl) dX10_reach_38 (fun v28 ms hd => ?_)
        show V K 4 (mkM am hn ms) 41 [(0, .ref am), (1, .int p1)] [.int v28]
        refine v_iconst (v := 5) X dX10_reach_41 (by decide) ?_
        refine v_icmp_le (tgt := 48) X dX10_reach_42 (by decide) (fun q => ?_) (fun q => ?_)
        · have hd := Tite_t q hd
          refine v_aload_n X dX10_reach_48 0 0 rfl rfl ?_
          refine t_callV X hK hd (ct_X10_takeNow _ am) (lw_V q2144 q2146 qs77 q120 q2147) ⟨rfl, dn_X10_takeNow⟩ rfl ⟨by decide, by decide⟩ rfl (Nat.le_of_ble_eq_true rfl) dX10_reach_49 (fun v29 ms hd => ?_)
          show V K 4 (mkM am hn ms) 52 [(0, .ref am), (1, .int p1)] []
          refine v_iconst (v := 0) X dX10_reach_52 (by decide) ?_
          refine v_istore_n (lv2 := [(2, .int 0), (0, .ref am), (1, .int p1)]) X dX10_reach_53 2 rfl (by decide) rfl ?_
          obtain ⟨e33, m1, hd, hd2⟩ := TM.bind_some hd
          have KX : V K 4 (mkM am hn m1) 73 [(0, .ref am), (1, .int p1)] [] := by
            clear hd
            have hd := hd2
            refine v_iconst (v := 0) X dX10_reach_73 (by decide) ?_
            refine v_istore_n (lv2 := [(2, .int 0), (0, .ref am), (1, .int p1)]) X dX10_reach_74 2 rfl (by decide) rfl ?_
            refine v_iload_n X dX10_reach_75 2 1 rfl rfl ?_
            refine v_iconst (v := 1) X dX10_reach_76 (by decide) ?_
            obtain ⟨u35, m1, hd, hd2⟩ := TM.bind_some hd
            have KJ : V K 4 (mkM am hn m1) 124 [(0, .ref am), (2, .int 0)] [] := by
              clear hd
              have hd := hd2
              refine v_iconst (v := 0) X dX10_reach_124 (by decide) ?_
              refine v_istore_n (lv2 := [(3, .int 0), (0, .ref am), (2, .int 0)]) X dX10_reach_125 3 rfl (by decide) rfl ?_
              obtain ⟨e39, m1, hd, hd2⟩ := TM.bind_some hd
              have KX : V K 4 (mkM am hn m1) 150 [(2, .int e39)] [] := by
                clear hd
                have hd := hd2
                refine v_iload_n X dX10_reach_150 0 2 rfl rfl ?_
                exact t_iret X hK hd ho dX10_reach_151
              clear hd2
              refine v_loc [1, 2, 0] rfl ?_
              refine Tloop_ind hd (fun (s36 : Int32 × Int32) m => V K 4 (mkM am hn m) 126 [(0, .ref am), (2, .int s36.1), (3, .int s36.2)] []) (fun s36 ms x m2 hd ih37 ho38 => ?_)
              refine v_iload_n X dX10_reach_126 2 3 rfl rfl ?_
              refine v_bipush (v := 100) X dX10_reach_127 (by decide) ?_
              refine v_icmp_ge (tgt := 150) X dX10_reach_129 (by decide) (fun q => ?_) (fun q => ?_)
              · have hd := Tite_t q hd
                exact v_loc [1] rfl (t_at (P := fun (e39 : Int32) m => V K 4 (mkM am hn m) 150 [(2, .int e39)] []) (Tlp_out hd ho38) KX)
              · have hd := Tite_f q hd
                refine v_aload_n X dX10_reach_132 0 0 rfl rfl ?_
                refine t_getA (j := 30) X rfl fl_X10_102 dX10_reach_133 ?_
                refine v_iload_n X dX10_reach_136 2 3 rfl rfl ?_
                refine t_zald (j := 30) X hd rfl dX10_reach_137 (fun v40 hd => ?_)
                obtain ⟨u41, m1, hd, hd2⟩ := TM.bind_some hd
                have KJ : V K 4 (mkM am hn m1) 144 [(0, .ref am), (2, .int u41), (3, .int s36.2)] [] := by
                  clear hd
                  have hd := hd2
                  refine t_iincL (lv2 := fun v42 => [(3, .int v42), (0, .ref am), (2, .int u41)]) X hd dX10_reach_144 2 rfl (by decide : Int32.ofInt 1 = 1) (by decide) (fun v42 => rfl) (fun v42 hd => ?_)
                  refine v_goto (tgt := 126) X dX10_reach_147 (by decide) ?_
                  exact v_loc [1, 2, 0] rfl (Tlp_in (P := fun (s36 : Int32 × Int32) m => V K 4 (mkM am hn m) 126 [(0, .ref am), (2, .int s36.1), (3, .int s36.2)] []) hd ih37)
                clear hd2
                refine v_if_eq (tgt := 144) X dX10_reach_138 (by decide) (fun q => ?_) (fun q => ?_)
                · have hd := Tite_t q hd
                  exact v_loc [0, 1, 2] rfl (t_at (P := fun (u41 : Int32) m => V K 4 (mkM am hn m) 144 [(0, .ref am), (2, .int u41), (3, .int s36.2)] []) hd KJ)
                · have hd := Tite_f q hd
                  refine t_iincL (lv2 := fun v43 => [(2, .int v43), (0, .ref am), (3, .int s36.2)]) X hd dX10_reach_141 1 rfl (by decide : Int32.ofInt 1 = 1) (by decide) (fun v43 => rfl) (fun v43 hd => ?_)
                  exact v_loc [1, 0, 2] rfl (t_at (P := fun (u41 : Int32) m => V K 4 (mkM am hn m) 144 [(0, .ref am), (2, .int u41), (3, .int s36.2)] []) hd KJ)
            clear hd2
            refine v_icmp_ne (tgt := 120) X dX10_reach_77 (by decide) (fun q => ?_) (fun q => ?_)
            · have hd := Tite_f q hd
              refine v_aload_n X dX10_reach_120 1 0 rfl rfl ?_
              refine t_callV X hK hd (ct_X10_walkOn _ am) (lw_V q2264 q2266 qs96 q120 q2267) ⟨rfl, dn_X10_walkOn⟩ rfl ⟨by decide, by decide⟩ rfl (Nat.le_of_ble_eq_true rfl) dX10_reach_121 (fun v44 ms hd => ?_)
              show V K 4 (mkM am hn ms) 124 [(2, .int 0), (0, .ref am), (1, .int p1)] []
              exact v_loc [1, 0] rfl (t_at (P := fun (u35 : Unit) m => V K 4 (mkM am hn m) 124 [(0, .ref am), (2, .int 0)] []) hd KJ)
            · have hd := Tite_t q hd
              refine v_aload_n X dX10_reach_80 1 0 rfl rfl ?_
              refine v_iconst (v := (-1)) X dX10_reach_81 (by decide) ?_
              refine t_callV X hK hd (ct_X10_search _ am (-1)) (lw_V q2240 q2242 qs93 q120 q2243) ⟨rfl, dn_X10_search⟩ rfl ⟨by decide, by decide⟩ rfl (Nat.le_of_ble_eq_true rfl) dX10_reach_82 (fun v45 ms hd => ?_)
              show V K 4 (mkM am hn ms) 85 [(2, .int 0), (0, .ref am), (1, .int p1)] [.int v45]
              refine v_pop X dX10_reach_85 rfl ?_
              refine v_iconst (v := 0) X dX10_reach_86 (by decide) ?_
              refine v_istore_n (lv2 := [(3, .int 0), (2, .int 0), (0, .ref am), (1, .int p1)]) X dX10_reach_87 3 rfl (by decide) rfl ?_
              obtain ⟨e49, m1, hd, hd2⟩ := TM.bind_some hd
              have KX : V K 4 (mkM am hn m1) 117 [(0, .ref am), (2, .int 0)] [] := by
                clear hd
                have hd := hd2
                refine v_goto (tgt := 124) X dX10_reach_117 (by decide) ?_
                exact v_loc [0, 1] rfl (t_at (P := fun (u35 : Unit) m => V K 4 (mkM am hn m) 124 [(0, .ref am), (2, .int 0)] []) hd KJ)
              clear hd2
              refine v_loc [2, 1, 0] rfl ?_
              refine Tloop_ind hd (fun (s46 : Int32) m => V K 4 (mkM am hn m) 88 [(0, .ref am), (2, .int 0), (3, .int s46)] []) (fun s46 ms x m2 hd ih47 ho48 => ?_)
              refine v_iload_n X dX10_reach_88 2 3 rfl rfl ?_
              refine v_aload_n X dX10_reach_89 0 0 rfl rfl ?_
              refine t_getI X hd rfl fl_X10_414 dX10_reach_90 (fun v50 hd => ?_)
              refine v_icmp_ge (tgt := 117) X dX10_reach_93 (by decide) (fun q => ?_) (fun q => ?_)
              · have hd := Tite_t q hd
                exact v_loc [0, 1] rfl (t_at (P := fun (e49 : Unit) m => V K 4 (mkM am hn m) 117 [(0, .ref am), (2, .int 0)] []) (Tlp_out hd ho48) KX)
              · have hd := Tite_f q hd
                refine v_aload_n X dX10_reach_96 0 0 rfl rfl ?_
                refine t_getA (j := 30) X rfl fl_X10_102 dX10_reach_97 ?_
                refine v_aload_n X dX10_reach_100 0 0 rfl rfl ?_
                refine t_getA (j := 25) X rfl fl_X10_87 dX10_reach_101 ?_
                refine v_iload_n X dX10_reach_104 2 3 rfl rfl ?_
                refine t_iald (j := 25) X hd rfl dX10_reach_105 (fun v51 hd => ?_)
                refine v_bipush (v := 100) X dX10_reach_106 (by decide) ?_
                refine v_irem X dX10_reach_108 (by decide) ?_
                refine v_iconst (v := 1) X dX10_reach_109 (by decide) ?_
                refine t_zast (j := 30) X hd rfl rfl dX10_reach_110 (fun ms hd => ?_)
                refine t_iincL (lv2 := fun v52 => [(3, .int v52), (0, .ref am), (2, .int 0)]) X hd dX10_reach_111 2 rfl (by decide : Int32.ofInt 1 = 1) (by decide) (fun v52 => rfl) (fun v52 hd => ?_)
                refine v_goto (tgt := 88) X dX10_reach_114 (by decide) ?_
                exact v_loc [1, 2, 0] rfl (Tlp_in (P := fun (s46 : Int32) m => V K 4 (mkM am hn m) 88 [(0, .ref am), (2, .int 0), (3, .int s46)] []) hd ih47)
          clear hd2
          refine v_loc [1, 2, 0] rfl ?_
          refine Tloop_ind hd (fun (s30 : Int32) m => V K 4 (mkM am hn m) 54 [(0, .ref am), (1, .int p1), (2, .int s30)] []) (fun s30 ms x m2 hd ih31 ho32 => ?_)
          refine v_iload_n X dX10_reach_54 2 2 rfl rfl ?_
          refine v_bipush (v := 100) X dX10_reach_55 (by decide) ?_
          refine v_icmp_ge (tgt := 73) X dX10_reach_57 (by decide) (fun q => ?_) (fun q => ?_)
          · have hd := Tite_t q hd
            exact v_loc [0, 1] rfl (t_at (P := fun (e33 : Unit) m => V K 4 (mkM am hn m) 73 [(0, .ref am), (1, .int p1)] []) (Tlp_out hd ho32) KX)
          · have hd := Tite_f q hd
            refine v_aload_n X dX10_reach_60 0 0 rfl rfl ?_
            refine t_getA (j := 30) X rfl fl_X10_102 dX10_reach_61 ?_
            refine v_iload_n X dX10_reach_64 2 2 rfl rfl ?_
            refine v_iconst (v := 0) X dX10_reach_65 (by decide) ?_
            refine t_zast (j := 30) X hd rfl rfl dX10_reach_66 (fun ms hd => ?_)
            refine t_iincL (lv2 := fun v34 => [(2, .int v34), (0, .ref am), (1, .int p1)]) X hd dX10_reach_67 2 rfl (by decide : Int32.ofInt 1 = 1) (by decide) (fun v34 => rfl) (fun v34 hd => ?_)
            refine v_goto (tgt := 54) X dX10_reach_70 (by decide) ?_
            exact v_loc [1, 2, 0] rfl (Tlp_in (P := fun (s30 : Int32) m => V K 4 (mkM am hn m) 54 [(0, .ref am), (1, .int p1), (2, .int s30)] []) hd ih31)
        · have hd := Tite_f q hd
          refine v_bipush (v := (-2)) X dX10_reach_45 (by decide) ?_
          exact t_iret X hK hd ho dX10_reach_47
    · have hd := Tite_t q hd
      refine v_iconst (v := (-1)) X dX10_reach_30 (by decide) ?_
      exact t_iret X hK hd ho dX10_reach_31
def dkwX10_clashes_1 : List UInt8 := [42, 27, 7, 182, 1, 11, 79, 132, 1, 1, 167, 255, 233, 42, 42, 180, 0, 54, 182, 1, 46, 172]
abbrev dktX10_clashes_1 : List UInt8 := dkwX10_clashes_1 ++ []
def dkwX10_clashes_0 : List UInt8 := [42, 3, 181, 0, 108, 42, 182, 1, 36, 3, 60, 27, 42, 182, 0, 211, 162, 0, 21, 42, 180, 0, 54, 27]
abbrev dktX10_clashes_0 : List UInt8 := dkwX10_clashes_0 ++ dktX10_clashes_1
theorem dksX10_clashes_0 : cX10_clashes.data.toList.drop 0 = dktX10_clashes_0 := by decide +kernel
theorem dksX10_clashes_1 : cX10_clashes.data.toList.drop 24 = dktX10_clashes_1 := dk_seg dksX10_clashes_0 24 rfl rfl
theorem dX10_clashes_0 : decode cX10_clashes 0 = .ok (.aload_n 0, 1) := dk_42 (dk_at dksX10_clashes_0 0 rfl rfl)
theorem dX10_clashes_1 : decode cX10_clashes 1 = .ok (.iconst 0, 1) := dk_3 (dk_at dksX10_clashes_0 1 rfl rfl)
theorem dX10_clashes_2 : decode cX10_clashes 2 = .ok (.putfield 108, 3) := dk_181 0 108 (dk_at dksX10_clashes_0 2 rfl rfl)
theorem dX10_clashes_5 : decode cX10_clashes 5 = .ok (.aload_n 0, 1) := dk_42 (dk_at dksX10_clashes_0 5 rfl rfl)
theorem dX10_clashes_6 : decode cX10_clashes 6 = .ok (.invokevirtual 292, 3) := dk_182 1 36 (dk_at dksX10_clashes_0 6 rfl rfl)
theorem dX10_clashes_9 : decode cX10_clashes 9 = .ok (.iconst 0, 1) := dk_3 (dk_at dksX10_clashes_0 9 rfl rfl)
theorem dX10_clashes_10 : decode cX10_clashes 10 = .ok (.istore_n 1, 1) := dk_60 (dk_at dksX10_clashes_0 10 rfl rfl)
theorem dX10_clashes_11 : decode cX10_clashes 11 = .ok (.iload_n 1, 1) := dk_27 (dk_at dksX10_clashes_0 11 rfl rfl)
theorem dX10_clashes_12 : decode cX10_clashes 12 = .ok (.aload_n 0, 1) := dk_42 (dk_at dksX10_clashes_0 12 rfl rfl)
theorem dX10_clashes_13 : decode cX10_clashes 13 = .ok (.invokevirtual 211, 3) := dk_182 0 211 (dk_at dksX10_clashes_0 13 rfl rfl)
theorem dX10_clashes_16 : decode cX10_clashes 16 = .ok (.if_icmp .ge 21, 3) := dk_162 0 21 (dk_at dksX10_clashes_0 16 rfl rfl)
theorem dX10_clashes_19 : decode cX10_clashes 19 = .ok (.aload_n 0, 1) := dk_42 (dk_at dksX10_clashes_0 19 rfl rfl)
theorem dX10_clashes_20 : decode cX10_clashes 20 = .ok (.getfield 54, 3) := dk_180 0 54 (dk_at dksX10_clashes_0 20 rfl rfl)
theorem dX10_clashes_23 : decode cX10_clashes 23 = .ok (.iload_n 1, 1) := dk_27 (dk_at dksX10_clashes_0 23 rfl rfl)
theorem dX10_clashes_24 : decode cX10_clashes 24 = .ok (.aload_n 0, 1) := dk_42 (dk_at dksX10_clashes_1 0 rfl rfl)
theorem dX10_clashes_25 : decode cX10_clashes 25 = .ok (.iload_n 1, 1) := dk_27 (dk_at dksX10_clashes_1 1 rfl rfl)
theorem dX10_clashes_26 : decode cX10_clashes 26 = .ok (.iconst 4, 1) := dk_7 (dk_at dksX10_clashes_1 2 rfl rfl)
theorem dX10_clashes_27 : decode cX10_clashes 27 = .ok (.invokevirtual 267, 3) := dk_182 1 11 (dk_at dksX10_clashes_1 3 rfl rfl)
theorem dX10_clashes_30 : decode cX10_clashes 30 = .ok (.iastore, 1) := dk_79 (dk_at dksX10_clashes_1 6 rfl rfl)
theorem dX10_clashes_31 : decode cX10_clashes 31 = .ok (.iinc 1 1, 3) := dk_132 1 1 (dk_at dksX10_clashes_1 7 rfl rfl)
theorem dX10_clashes_34 : decode cX10_clashes 34 = .ok (.goto (-23), 3) := dk_167 255 233 (dk_at dksX10_clashes_1 10 rfl rfl)
theorem dX10_clashes_37 : decode cX10_clashes 37 = .ok (.aload_n 0, 1) := dk_42 (dk_at dksX10_clashes_1 13 rfl rfl)
theorem dX10_clashes_38 : decode cX10_clashes 38 = .ok (.aload_n 0, 1) := dk_42 (dk_at dksX10_clashes_1 14 rfl rfl)
theorem dX10_clashes_39 : decode cX10_clashes 39 = .ok (.getfield 54, 3) := dk_180 0 54 (dk_at dksX10_clashes_1 15 rfl rfl)
theorem dX10_clashes_42 : decode cX10_clashes 42 = .ok (.invokevirtual 302, 3) := dk_182 1 46 (dk_at dksX10_clashes_1 18 rfl rfl)
theorem dX10_clashes_45 : decode cX10_clashes 45 = .ok (.ireturn, 1) := dk_172 (dk_at dksX10_clashes_1 21 rfl rfl)
theorem dn_X10_clashes : yX10_clashes.cls ≠ "java/lang/invoke/MethodHandle" ∧ yX10_clashes.cls ≠ "java/lang/invoke/VarHandle" ∧ (parseMethodDescriptor yX10_clashes.desc).map (fun d => d.parameters.length) = some 0 := by decide +kernel
noncomputable def M_X10_clashes  : TM Int32 := TM.bind (sI 0 0) (fun _ => TM.bind (M_X10_laySwept) (fun v1 => TM.bind (TM.loop (S := Int32) (E := Unit) (fun s2 => TM.bind (M_X10_doors) (fun v6 => if v6 ≤ s2 then TM.pure (Sum.inr ()) else TM.bind (M_X10_of s2 4) (fun v7 => TM.bind (sA 30 10 s2 v7) (fun _ => TM.lv (s2 + 1) (fun v8 => TM.pure (Sum.inl v8)))))) 0) (fun e5 => TM.bind (M_X10_clashesOf) (fun v9 => TM.pure v9))))
set_option maxHeartbeats 4000000 in
theorem ct_X10_clashes (G : gG) (am : Nat)  : gCtM G am yX10_clashes cX10_clashes 2 (some .int) 5 127 [.ref am] (M_X10_clashes) (fun x : Int32 => some (.int x)) := by
  refine gCtM.of (by decide) (Nat.le_of_ble_eq_true rfl) (fun K hn ms ms' r hG X hK hd ho => ?_)
  subst hG
  have X : gX K cX10_clashes 2 "BitingDoorsModel" "clashes" (some .int) 5 127 := X
  show V K 2 (mkM am hn ms) 0 [(0, .ref am)] []
  unfold M_X10_clashes at hd
  refine v_aload_n X dX10_clashes_0 0 0 rfl rfl ?_
  refine v_iconst (v := 0) X dX10_clashes_1 (by decide) ?_
  refine t_putI X hd rfl fp_X10_108 dX10_clashes_2 (fun ms hd => ?_)
  refine v_aload_n X dX10_clashes_5 0 0 rfl rfl ?_
  refine t_callV X hK hd (ct_X10_laySwept _ am) (lw_V q2030 q2032 qs64 q120 q2033) ⟨rfl, dn_X10_laySwept⟩ rfl ⟨by decide, by decide⟩ rfl (Nat.le_of_ble_eq_true rfl) dX10_clashes_6 (fun v1 ms hd => ?_)
  show V K 2 (mkM am hn ms) 9 [(0, .ref am)] []
  refine v_iconst (v := 0) X dX10_clashes_9 (by decide) ?_
  refine v_istore_n (lv2 := [(1, .int 0), (0, .ref am)]) X dX10_clashes_10 1 rfl (by decide) rfl ?_
  obtain ⟨e5, m1, hd, hd2⟩ := TM.bind_some hd
  have KX : V K 2 (mkM am hn m1) 37 [(0, .ref am)] [] := by
    clear hd
    have hd := hd2
    refine v_aload_n X dX10_clashes_37 0 0 rfl rfl ?_
    refine v_aload_n X dX10_clashes_38 0 0 rfl rfl ?_
    refine t_getA (j := 14) X rfl fl_X10_54 dX10_clashes_39 ?_
    refine t_callV X hK hd (ct_X10_clashesOf _ am) (lw_V q2045 q2047 qs66 q120 q2048) ⟨rfl, dn_X10_clashesOf⟩ rfl ⟨by decide, by decide⟩ rfl (Nat.le_of_ble_eq_true rfl) dX10_clashes_42 (fun v9 ms hd => ?_)
    show V K 2 (mkM am hn ms) 45 [(0, .ref am)] [.int v9]
    exact t_iret X hK hd ho dX10_clashes_45
  clear hd2
  refine v_loc [1, 0] rfl ?_
  refine Tloop_ind hd (fun (s2 : Int32) m => V K 2 (mkM am hn m) 11 [(0, .ref am), (1, .int s2)] []) (fun s2 ms x m2 hd ih3 ho4 => ?_)
  refine v_iload_n X dX10_clashes_11 1 1 rfl rfl ?_
  refine v_aload_n X dX10_clashes_12 0 0 rfl rfl ?_
  refine t_callV X hK hd (ct_X10_doors _ am) (lw_V q1986 q1988 qs57 q120 q1989) ⟨rfl, dn_X10_doors⟩ rfl ⟨by decide, by decide⟩ rfl (Nat.le_of_ble_eq_true rfl) dX10_clashes_13 (fun v6 ms hd => ?_)
  show V K 2 (mkM am hn ms) 16 [(0, .ref am), (1, .int s2)] [.int v6, .int s2]
  refine v_icmp_ge (tgt := 37) X dX10_clashes_16 (by decide) (fun q => ?_) (fun q => ?_)
  · have hd := Tite_t q hd
    exact v_loc [0] rfl (t_at (P := fun (e5 : Unit) m => V K 2 (mkM am hn m) 37 [(0, .ref am)] []) (Tlp_out hd ho4) KX)
  · have hd := Tite_f q hd
    refine v_aload_n X dX10_clashes_19 0 0 rfl rfl ?_
    refine t_getA (j := 14) X rfl fl_X10_54 dX10_clashes_20 ?_
    refine v_iload_n X dX10_clashes_23 1 1 rfl rfl ?_
    refine v_aload_n X dX10_clashes_24 0 0 rfl rfl ?_
    refine v_iload_n X dX10_clashes_25 1 1 rfl rfl ?_
    refine v_iconst (v := 4) X dX10_clashes_26 (by decide) ?_
    refine t_callV X hK hd (ct_X10_of _ am s2 4) (lw_V q1994 q1996 qs59 q120 q1997) ⟨rfl, dn_X10_of⟩ rfl ⟨by decide, by decide⟩ rfl (Nat.le_of_ble_eq_true rfl) dX10_clashes_27 (fun v7 ms hd => ?_)
    show V K 2 (mkM am hn ms) 30 [(0, .ref am), (1, .int s2)] [.int v7, .int s2, .ref (am + (14 + 1))]
    refine t_iast (j := 14) X hd rfl dX10_clashes_30 (fun ms hd => ?_)
    refine t_iincL (lv2 := fun v8 => [(1, .int v8), (0, .ref am)]) X hd dX10_clashes_31 1 rfl (by decide : Int32.ofInt 1 = 1) (by decide) (fun v8 => rfl) (fun v8 hd => ?_)
    refine v_goto (tgt := 11) X dX10_clashes_34 (by decide) ?_
    exact v_loc [1, 0] rfl (Tlp_in (P := fun (s2 : Int32) m => V K 2 (mkM am hn m) 11 [(0, .ref am), (1, .int s2)] []) hd ih3)
def dkwX10_said_3 : List UInt8 := [172]
abbrev dktX10_said_3 : List UInt8 := dkwX10_said_3 ++ []
def dkwX10_said_2 : List UInt8 := [17, 1, 207, 46, 28, 182, 1, 218, 153, 0, 9, 27, 4, 28, 120, 128, 60, 132, 2, 1, 167, 255, 223, 27]
abbrev dktX10_said_2 : List UInt8 := dkwX10_said_2 ++ dktX10_said_3
def dkwX10_said_1 : List UInt8 := [182, 1, 36, 42, 182, 1, 125, 3, 60, 3, 61, 28, 42, 182, 0, 211, 162, 0, 31, 42, 42, 180, 0, 13]
abbrev dktX10_said_1 : List UInt8 := dkwX10_said_1 ++ dktX10_said_2
def dkwX10_said_0 : List UInt8 := [42, 3, 181, 0, 108, 42, 182, 0, 200, 42, 180, 0, 13, 17, 1, 206, 46, 154, 0, 5, 2, 172, 42]
abbrev dktX10_said_0 : List UInt8 := dkwX10_said_0 ++ dktX10_said_1
theorem dksX10_said_0 : cX10_said.data.toList.drop 0 = dktX10_said_0 := by decide +kernel
theorem dksX10_said_1 : cX10_said.data.toList.drop 23 = dktX10_said_1 := dk_seg dksX10_said_0 23 rfl rfl
theorem dksX10_said_2 : cX10_said.data.toList.drop 47 = dktX10_said_2 := dk_seg dksX10_said_1 24 rfl rfl
theorem dksX10_said_3 : cX10_said.data.toList.drop 71 = dktX10_said_3 := dk_seg dksX10_said_2 24 rfl rfl
theorem dX10_said_0 : decode cX10_said 0 = .ok (.aload_n 0, 1) := dk_42 (dk_at dksX10_said_0 0 rfl rfl)
theorem dX10_said_1 : decode cX10_said 1 = .ok (.iconst 0, 1) := dk_3 (dk_at dksX10_said_0 1 rfl rfl)
theorem dX10_said_2 : decode cX10_said 2 = .ok (.putfield 108, 3) := dk_181 0 108 (dk_at dksX10_said_0 2 rfl rfl)
theorem dX10_said_5 : decode cX10_said 5 = .ok (.aload_n 0, 1) := dk_42 (dk_at dksX10_said_0 5 rfl rfl)
theorem dX10_said_6 : decode cX10_said 6 = .ok (.invokevirtual 200, 3) := dk_182 0 200 (dk_at dksX10_said_0 6 rfl rfl)
theorem dX10_said_9 : decode cX10_said 9 = .ok (.aload_n 0, 1) := dk_42 (dk_at dksX10_said_0 9 rfl rfl)
theorem dX10_said_10 : decode cX10_said 10 = .ok (.getfield 13, 3) := dk_180 0 13 (dk_at dksX10_said_0 10 rfl rfl)
theorem dX10_said_13 : decode cX10_said 13 = .ok (.sipush 462, 3) := dk_17 1 206 (dk_at dksX10_said_0 13 rfl rfl)
theorem dX10_said_16 : decode cX10_said 16 = .ok (.iaload, 1) := dk_46 (dk_at dksX10_said_0 16 rfl rfl)
theorem dX10_said_17 : decode cX10_said 17 = .ok (.ifCond .ne 5, 3) := dk_154 0 5 (dk_at dksX10_said_0 17 rfl rfl)
theorem dX10_said_20 : decode cX10_said 20 = .ok (.iconst (-1), 1) := dk_2 (dk_at dksX10_said_0 20 rfl rfl)
theorem dX10_said_21 : decode cX10_said 21 = .ok (.ireturn, 1) := dk_172 (dk_at dksX10_said_0 21 rfl rfl)
theorem dX10_said_22 : decode cX10_said 22 = .ok (.aload_n 0, 1) := dk_42 (dk_at dksX10_said_0 22 rfl rfl)
theorem dX10_said_23 : decode cX10_said 23 = .ok (.invokevirtual 292, 3) := dk_182 1 36 (dk_at dksX10_said_1 0 rfl rfl)
theorem dX10_said_26 : decode cX10_said 26 = .ok (.aload_n 0, 1) := dk_42 (dk_at dksX10_said_1 3 rfl rfl)
theorem dX10_said_27 : decode cX10_said 27 = .ok (.invokevirtual 381, 3) := dk_182 1 125 (dk_at dksX10_said_1 4 rfl rfl)
theorem dX10_said_30 : decode cX10_said 30 = .ok (.iconst 0, 1) := dk_3 (dk_at dksX10_said_1 7 rfl rfl)
theorem dX10_said_31 : decode cX10_said 31 = .ok (.istore_n 1, 1) := dk_60 (dk_at dksX10_said_1 8 rfl rfl)
theorem dX10_said_32 : decode cX10_said 32 = .ok (.iconst 0, 1) := dk_3 (dk_at dksX10_said_1 9 rfl rfl)
theorem dX10_said_33 : decode cX10_said 33 = .ok (.istore_n 2, 1) := dk_61 (dk_at dksX10_said_1 10 rfl rfl)
theorem dX10_said_34 : decode cX10_said 34 = .ok (.iload_n 2, 1) := dk_28 (dk_at dksX10_said_1 11 rfl rfl)
theorem dX10_said_35 : decode cX10_said 35 = .ok (.aload_n 0, 1) := dk_42 (dk_at dksX10_said_1 12 rfl rfl)
theorem dX10_said_36 : decode cX10_said 36 = .ok (.invokevirtual 211, 3) := dk_182 0 211 (dk_at dksX10_said_1 13 rfl rfl)
theorem dX10_said_39 : decode cX10_said 39 = .ok (.if_icmp .ge 31, 3) := dk_162 0 31 (dk_at dksX10_said_1 16 rfl rfl)
theorem dX10_said_42 : decode cX10_said 42 = .ok (.aload_n 0, 1) := dk_42 (dk_at dksX10_said_1 19 rfl rfl)
theorem dX10_said_43 : decode cX10_said 43 = .ok (.aload_n 0, 1) := dk_42 (dk_at dksX10_said_1 20 rfl rfl)
theorem dX10_said_44 : decode cX10_said 44 = .ok (.getfield 13, 3) := dk_180 0 13 (dk_at dksX10_said_1 21 rfl rfl)
theorem dX10_said_47 : decode cX10_said 47 = .ok (.sipush 463, 3) := dk_17 1 207 (dk_at dksX10_said_2 0 rfl rfl)
theorem dX10_said_50 : decode cX10_said 50 = .ok (.iaload, 1) := dk_46 (dk_at dksX10_said_2 3 rfl rfl)
theorem dX10_said_51 : decode cX10_said 51 = .ok (.iload_n 2, 1) := dk_28 (dk_at dksX10_said_2 4 rfl rfl)
theorem dX10_said_52 : decode cX10_said 52 = .ok (.invokevirtual 474, 3) := dk_182 1 218 (dk_at dksX10_said_2 5 rfl rfl)
theorem dX10_said_55 : decode cX10_said 55 = .ok (.ifCond .eq 9, 3) := dk_153 0 9 (dk_at dksX10_said_2 8 rfl rfl)
theorem dX10_said_58 : decode cX10_said 58 = .ok (.iload_n 1, 1) := dk_27 (dk_at dksX10_said_2 11 rfl rfl)
theorem dX10_said_59 : decode cX10_said 59 = .ok (.iconst 1, 1) := dk_4 (dk_at dksX10_said_2 12 rfl rfl)
theorem dX10_said_60 : decode cX10_said 60 = .ok (.iload_n 2, 1) := dk_28 (dk_at dksX10_said_2 13 rfl rfl)
theorem dX10_said_61 : decode cX10_said 61 = .ok (.ishl, 1) := dk_120 (dk_at dksX10_said_2 14 rfl rfl)
theorem dX10_said_62 : decode cX10_said 62 = .ok (.ior, 1) := dk_128 (dk_at dksX10_said_2 15 rfl rfl)
theorem dX10_said_63 : decode cX10_said 63 = .ok (.istore_n 1, 1) := dk_60 (dk_at dksX10_said_2 16 rfl rfl)
theorem dX10_said_64 : decode cX10_said 64 = .ok (.iinc 2 1, 3) := dk_132 2 1 (dk_at dksX10_said_2 17 rfl rfl)
theorem dX10_said_67 : decode cX10_said 67 = .ok (.goto (-33), 3) := dk_167 255 223 (dk_at dksX10_said_2 20 rfl rfl)
theorem dX10_said_70 : decode cX10_said 70 = .ok (.iload_n 1, 1) := dk_27 (dk_at dksX10_said_2 23 rfl rfl)
theorem dX10_said_71 : decode cX10_said 71 = .ok (.ireturn, 1) := dk_172 (dk_at dksX10_said_3 0 rfl rfl)
theorem dn_X10_said : yX10_said.cls ≠ "java/lang/invoke/MethodHandle" ∧ yX10_said.cls ≠ "java/lang/invoke/VarHandle" ∧ (parseMethodDescriptor yX10_said.desc).map (fun d => d.parameters.length) = some 0 := by decide +kernel
noncomputable def M_X10_said  : TM Int32 := TM.bind (sI 0 0) (fun _ => TM.bind (M_X10_lay) (fun v1 => TM.bind (tA 14 704 462) (fun v2 => if v2 = 0 then TM.pure (-1) else TM.bind (M_X10_laySwept) (fun v3 => TM.bind (M_X10_takeNow) (fun v4 => TM.bind (TM.loop (S := Int32 × Int32) (E := Int32) (fun s5 => TM.bind (M_X10_doors) (fun v9 => if v9 ≤ s5.2 then TM.pure (Sum.inr s5.1) else TM.bind (tA 14 704 463) (fun v10 => TM.bind (M_X10_isSo 64 v10 s5.2) (fun v11 => TM.bind ((cond v11 (TM.lv (s5.1 ||| (1 <<< (s5.2 &&& 31))) (fun v14 => TM.pure v14)) (TM.pure s5.1) : TM (Int32))) (fun u12 => TM.lv (s5.2 + 1) (fun v13 => TM.pure (Sum.inl (u12, v13)))))))) (0, 0)) (fun e8 => TM.pure e8))))))
set_option maxHeartbeats 4000000 in
theorem ct_X10_said (G : gG) (am : Nat)  : gCtM G am yX10_said cX10_said 3 (some .int) 69 1791 [.ref am] (M_X10_said) (fun x : Int32 => some (.int x)) := by
  refine gCtM.of (by decide) (Nat.le_of_ble_eq_true rfl) (fun K hn ms ms' r hG X hK hd ho => ?_)
  subst hG
  have X : gX K cX10_said 3 "BitingDoorsModel" "said" (some .int) 69 1791 := X
  show V K 3 (mkM am hn ms) 0 [(0, .ref am)] []
  unfold M_X10_said at hd
  refine v_aload_n X dX10_said_0 0 0 rfl rfl ?_
  refine v_iconst (v := 0) X dX10_said_1 (by decide) ?_
  refine t_putI X hd rfl fp_X10_108 dX10_said_2 (fun ms hd => ?_)
  refine v_aload_n X dX10_said_5 0 0 rfl rfl ?_
  refine t_callV X hK hd (ct_X10_lay _ am) (lw_V q1868 q1870 qs37 q120 q1871) ⟨rfl, dn_X10_lay⟩ rfl ⟨by decide, by decide⟩ rfl (Nat.le_of_ble_eq_true rfl) dX10_said_6 (fun v1 ms hd => ?_)
  show V K 3 (mkM am hn ms) 9 [(0, .ref am)] []
  refine v_aload_n X dX10_said_9 0 0 rfl rfl ?_
  refine t_getA (j := 1) X rfl fl_X10_13 dX10_said_10 ?_
  refine v_sipush (v := 462) X dX10_said_13 (by decide) ?_
  refine t_iald (j := 1) X hd rfl dX10_said_16 (fun v2 hd => ?_)
  refine v_if_ne (tgt := 22) X dX10_said_17 (by decide) (fun q => ?_) (fun q => ?_)
  · have hd := Tite_f q hd
    refine v_aload_n X dX10_said_22 0 0 rfl rfl ?_
    refine t_callV X hK hd (ct_X10_laySwept _ am) (lw_V q2030 q2032 qs64 q120 q2033) ⟨rfl, dn_X10_laySwept⟩ rfl ⟨by decide, by decide⟩ rfl (Nat.le_of_ble_eq_true rfl) dX10_said_23 (fun v3 ms hd => ?_)
    show V K 3 (mkM am hn ms) 26 [(0, .ref am)] []
    refine v_aload_n X dX10_said_26 0 0 rfl rfl ?_
    refine t_callV X hK hd (ct_X10_takeNow _ am) (lw_V q2144 q2146 qs77 q120 q2147) ⟨rfl, dn_X10_takeNow⟩ rfl ⟨by decide, by decide⟩ rfl (Nat.le_of_ble_eq_true rfl) dX10_said_27 (fun v4 ms hd => ?_)
    show V K 3 (mkM am hn ms) 30 [(0, .ref am)] []
    refine v_iconst (v := 0) X dX10_said_30 (by decide) ?_
    refine v_istore_n (lv2 := [(1, .int 0), (0, .ref am)]) X dX10_said_31 1 rfl (by decide) rfl ?_
    refine v_iconst (v := 0) X dX10_said_32 (by decide) ?_
    refine v_istore_n (lv2 := [(2, .int 0), (1, .int 0), (0, .ref am)]) X dX10_said_33 2 rfl (by decide) rfl ?_
    obtain ⟨e8, m1, hd, hd2⟩ := TM.bind_some hd
    have KX : V K 3 (mkM am hn m1) 70 [(1, .int e8)] [] := by
      clear hd
      have hd := hd2
      refine v_iload_n X dX10_said_70 0 1 rfl rfl ?_
      exact t_iret X hK hd ho dX10_said_71
    clear hd2
    refine v_loc [2, 1, 0] rfl ?_
    refine Tloop_ind hd (fun (s5 : Int32 × Int32) m => V K 3 (mkM am hn m) 34 [(0, .ref am), (1, .int s5.1), (2, .int s5.2)] []) (fun s5 ms x m2 hd ih6 ho7 => ?_)
    refine v_iload_n X dX10_said_34 2 2 rfl rfl ?_
    refine v_aload_n X dX10_said_35 0 0 rfl rfl ?_
    refine t_callV X hK hd (ct_X10_doors _ am) (lw_V q1986 q1988 qs57 q120 q1989) ⟨rfl, dn_X10_doors⟩ rfl ⟨by decide, by decide⟩ rfl (Nat.le_of_ble_eq_true rfl) dX10_said_36 (fun v9 ms hd => ?_)
    show V K 3 (mkM am hn ms) 39 [(0, .ref am), (1, .int s5.1), (2, .int s5.2)] [.int v9, .int s5.2]
    refine v_icmp_ge (tgt := 70) X dX10_said_39 (by decide) (fun q => ?_) (fun q => ?_)
    · have hd := Tite_t q hd
      exact v_loc [1] rfl (t_at (P := fun (e8 : Int32) m => V K 3 (mkM am hn m) 70 [(1, .int e8)] []) (Tlp_out hd ho7) KX)
    · have hd := Tite_f q hd
      refine v_aload_n X dX10_said_42 0 0 rfl rfl ?_
      refine v_aload_n X dX10_said_43 0 0 rfl rfl ?_
      refine t_getA (j := 1) X rfl fl_X10_13 dX10_said_44 ?_
      refine v_sipush (v := 463) X dX10_said_47 (by decide) ?_
      refine t_iald (j := 1) X hd rfl dX10_said_50 (fun v10 hd => ?_)
      refine v_iload_n X dX10_said_51 2 2 rfl rfl ?_
      refine t_callV X hK hd (ct_X10_isSo _ am 64 v10 s5.2) (lw_V q2320 q2322 qs106 q120 q2323) ⟨rfl, dn_X10_isSo⟩ rfl ⟨by decide, by decide⟩ rfl (Nat.le_of_ble_eq_true rfl) dX10_said_52 (fun v11 ms hd => ?_)
      show V K 3 (mkM am hn ms) 55 [(0, .ref am), (1, .int s5.1), (2, .int s5.2)] [.int (b2i v11)]
      obtain ⟨u12, m1, hd, hd2⟩ := TM.bind_some hd
      have KJ : V K 3 (mkM am hn m1) 64 [(0, .ref am), (1, .int u12), (2, .int s5.2)] [] := by
        clear hd
        have hd := hd2
        refine t_iincL (lv2 := fun v13 => [(2, .int v13), (0, .ref am), (1, .int u12)]) X hd dX10_said_64 2 rfl (by decide : Int32.ofInt 1 = 1) (by decide) (fun v13 => rfl) (fun v13 hd => ?_)
        refine v_goto (tgt := 34) X dX10_said_67 (by decide) ?_
        exact v_loc [1, 2, 0] rfl (Tlp_in (P := fun (s5 : Int32 × Int32) m => V K 3 (mkM am hn m) 34 [(0, .ref am), (1, .int s5.1), (2, .int s5.2)] []) hd ih6)
      clear hd2
      refine v_ifZ_eq (tgt := 64) X dX10_said_55 (by decide) (fun q => ?_) (fun q => ?_)
      · have hd := Tcnd_f q hd
        exact v_loc [0, 1, 2] rfl (t_at (P := fun (u12 : Int32) m => V K 3 (mkM am hn m) 64 [(0, .ref am), (1, .int u12), (2, .int s5.2)] []) hd KJ)
      · have hd := Tcnd_t q hd
        refine v_iload_n X dX10_said_58 1 1 rfl rfl ?_
        refine v_iconst (v := 1) X dX10_said_59 (by decide) ?_
        refine v_iload_n X dX10_said_60 2 2 rfl rfl ?_
        refine v_ishl X dX10_said_61 ?_
        refine v_ior X dX10_said_62 ?_
        refine t_lvI hd (fun v14 hd => ?_)
        refine v_istore_n (lv2 := [(1, .int v14), (0, .ref am), (2, .int s5.2)]) X dX10_said_63 1 rfl (by decide) rfl ?_
        exact v_loc [1, 0, 2] rfl (t_at (P := fun (u12 : Int32) m => V K 3 (mkM am hn m) 64 [(0, .ref am), (1, .int u12), (2, .int s5.2)] []) hd KJ)
  · have hd := Tite_t q hd
    refine v_iconst (v := (-1)) X dX10_said_20 (by decide) ?_
    exact t_iret X hK hd ho dX10_said_21
