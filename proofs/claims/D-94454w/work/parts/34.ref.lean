set_option maxRecDepth 100000
def dkwX10_canBe_3 : List UInt8 := [96, 46, 153, 0, 5, 3, 172, 132, 4, 1, 167, 255, 192, 4, 172]
abbrev dktX10_canBe_3 : List UInt8 := dkwX10_canBe_3 ++ []
def dkwX10_canBe_2 : List UInt8 := [42, 180, 0, 13, 16, 10, 16, 10, 42, 180, 0, 42, 21, 4, 46, 104, 96, 42, 180, 0, 39, 21, 4, 46]
abbrev dktX10_canBe_2 : List UInt8 := dkwX10_canBe_2 ++ dktX10_canBe_3
def dkwX10_canBe_1 : List UInt8 := [162, 0, 61, 42, 42, 180, 0, 39, 21, 4, 46, 42, 180, 0, 42, 21, 4, 46, 182, 1, 2, 153, 0, 32]
abbrev dktX10_canBe_1 : List UInt8 := dkwX10_canBe_1 ++ dktX10_canBe_2
def dkwX10_canBe_0 : List UInt8 := [29, 154, 0, 5, 4, 172, 42, 27, 28, 29, 182, 1, 22, 3, 54, 4, 21, 4, 42, 180, 1, 15]
abbrev dktX10_canBe_0 : List UInt8 := dkwX10_canBe_0 ++ dktX10_canBe_1
theorem dksX10_canBe_0 : cX10_canBe.data.toList.drop 0 = dktX10_canBe_0 := by decide +kernel
theorem dksX10_canBe_1 : cX10_canBe.data.toList.drop 22 = dktX10_canBe_1 := dk_seg dksX10_canBe_0 22 rfl rfl
theorem dksX10_canBe_2 : cX10_canBe.data.toList.drop 46 = dktX10_canBe_2 := dk_seg dksX10_canBe_1 24 rfl rfl
theorem dksX10_canBe_3 : cX10_canBe.data.toList.drop 70 = dktX10_canBe_3 := dk_seg dksX10_canBe_2 24 rfl rfl
theorem dX10_canBe_0 : decode cX10_canBe 0 = .ok (.iload_n 3, 1) := dk_29 (dk_at dksX10_canBe_0 0 rfl rfl)
theorem dX10_canBe_1 : decode cX10_canBe 1 = .ok (.ifCond .ne 5, 3) := dk_154 0 5 (dk_at dksX10_canBe_0 1 rfl rfl)
theorem dX10_canBe_4 : decode cX10_canBe 4 = .ok (.iconst 1, 1) := dk_4 (dk_at dksX10_canBe_0 4 rfl rfl)
theorem dX10_canBe_5 : decode cX10_canBe 5 = .ok (.ireturn, 1) := dk_172 (dk_at dksX10_canBe_0 5 rfl rfl)
theorem dX10_canBe_6 : decode cX10_canBe 6 = .ok (.aload_n 0, 1) := dk_42 (dk_at dksX10_canBe_0 6 rfl rfl)
theorem dX10_canBe_7 : decode cX10_canBe 7 = .ok (.iload_n 1, 1) := dk_27 (dk_at dksX10_canBe_0 7 rfl rfl)
theorem dX10_canBe_8 : decode cX10_canBe 8 = .ok (.iload_n 2, 1) := dk_28 (dk_at dksX10_canBe_0 8 rfl rfl)
theorem dX10_canBe_9 : decode cX10_canBe 9 = .ok (.iload_n 3, 1) := dk_29 (dk_at dksX10_canBe_0 9 rfl rfl)
theorem dX10_canBe_10 : decode cX10_canBe 10 = .ok (.invokevirtual 278, 3) := dk_182 1 22 (dk_at dksX10_canBe_0 10 rfl rfl)
theorem dX10_canBe_13 : decode cX10_canBe 13 = .ok (.iconst 0, 1) := dk_3 (dk_at dksX10_canBe_0 13 rfl rfl)
theorem dX10_canBe_14 : decode cX10_canBe 14 = .ok (.istore 4, 2) := dk_54 4 (dk_at dksX10_canBe_0 14 rfl rfl)
theorem dX10_canBe_16 : decode cX10_canBe 16 = .ok (.iload 4, 2) := dk_21 4 (dk_at dksX10_canBe_0 16 rfl rfl)
theorem dX10_canBe_18 : decode cX10_canBe 18 = .ok (.aload_n 0, 1) := dk_42 (dk_at dksX10_canBe_0 18 rfl rfl)
theorem dX10_canBe_19 : decode cX10_canBe 19 = .ok (.getfield 271, 3) := dk_180 1 15 (dk_at dksX10_canBe_0 19 rfl rfl)
theorem dX10_canBe_22 : decode cX10_canBe 22 = .ok (.if_icmp .ge 61, 3) := dk_162 0 61 (dk_at dksX10_canBe_1 0 rfl rfl)
theorem dX10_canBe_25 : decode cX10_canBe 25 = .ok (.aload_n 0, 1) := dk_42 (dk_at dksX10_canBe_1 3 rfl rfl)
theorem dX10_canBe_26 : decode cX10_canBe 26 = .ok (.aload_n 0, 1) := dk_42 (dk_at dksX10_canBe_1 4 rfl rfl)
theorem dX10_canBe_27 : decode cX10_canBe 27 = .ok (.getfield 39, 3) := dk_180 0 39 (dk_at dksX10_canBe_1 5 rfl rfl)
theorem dX10_canBe_30 : decode cX10_canBe 30 = .ok (.iload 4, 2) := dk_21 4 (dk_at dksX10_canBe_1 8 rfl rfl)
theorem dX10_canBe_32 : decode cX10_canBe 32 = .ok (.iaload, 1) := dk_46 (dk_at dksX10_canBe_1 10 rfl rfl)
theorem dX10_canBe_33 : decode cX10_canBe 33 = .ok (.aload_n 0, 1) := dk_42 (dk_at dksX10_canBe_1 11 rfl rfl)
theorem dX10_canBe_34 : decode cX10_canBe 34 = .ok (.getfield 42, 3) := dk_180 0 42 (dk_at dksX10_canBe_1 12 rfl rfl)
theorem dX10_canBe_37 : decode cX10_canBe 37 = .ok (.iload 4, 2) := dk_21 4 (dk_at dksX10_canBe_1 15 rfl rfl)
theorem dX10_canBe_39 : decode cX10_canBe 39 = .ok (.iaload, 1) := dk_46 (dk_at dksX10_canBe_1 17 rfl rfl)
theorem dX10_canBe_40 : decode cX10_canBe 40 = .ok (.invokevirtual 258, 3) := dk_182 1 2 (dk_at dksX10_canBe_1 18 rfl rfl)
theorem dX10_canBe_43 : decode cX10_canBe 43 = .ok (.ifCond .eq 32, 3) := dk_153 0 32 (dk_at dksX10_canBe_1 21 rfl rfl)
theorem dX10_canBe_46 : decode cX10_canBe 46 = .ok (.aload_n 0, 1) := dk_42 (dk_at dksX10_canBe_2 0 rfl rfl)
theorem dX10_canBe_47 : decode cX10_canBe 47 = .ok (.getfield 13, 3) := dk_180 0 13 (dk_at dksX10_canBe_2 1 rfl rfl)
theorem dX10_canBe_50 : decode cX10_canBe 50 = .ok (.bipush 10, 2) := dk_16 10 (dk_at dksX10_canBe_2 4 rfl rfl)
theorem dX10_canBe_52 : decode cX10_canBe 52 = .ok (.bipush 10, 2) := dk_16 10 (dk_at dksX10_canBe_2 6 rfl rfl)
theorem dX10_canBe_54 : decode cX10_canBe 54 = .ok (.aload_n 0, 1) := dk_42 (dk_at dksX10_canBe_2 8 rfl rfl)
theorem dX10_canBe_55 : decode cX10_canBe 55 = .ok (.getfield 42, 3) := dk_180 0 42 (dk_at dksX10_canBe_2 9 rfl rfl)
theorem dX10_canBe_58 : decode cX10_canBe 58 = .ok (.iload 4, 2) := dk_21 4 (dk_at dksX10_canBe_2 12 rfl rfl)
theorem dX10_canBe_60 : decode cX10_canBe 60 = .ok (.iaload, 1) := dk_46 (dk_at dksX10_canBe_2 14 rfl rfl)
theorem dX10_canBe_61 : decode cX10_canBe 61 = .ok (.imul, 1) := dk_104 (dk_at dksX10_canBe_2 15 rfl rfl)
theorem dX10_canBe_62 : decode cX10_canBe 62 = .ok (.iadd, 1) := dk_96 (dk_at dksX10_canBe_2 16 rfl rfl)
theorem dX10_canBe_63 : decode cX10_canBe 63 = .ok (.aload_n 0, 1) := dk_42 (dk_at dksX10_canBe_2 17 rfl rfl)
theorem dX10_canBe_64 : decode cX10_canBe 64 = .ok (.getfield 39, 3) := dk_180 0 39 (dk_at dksX10_canBe_2 18 rfl rfl)
theorem dX10_canBe_67 : decode cX10_canBe 67 = .ok (.iload 4, 2) := dk_21 4 (dk_at dksX10_canBe_2 21 rfl rfl)
theorem dX10_canBe_69 : decode cX10_canBe 69 = .ok (.iaload, 1) := dk_46 (dk_at dksX10_canBe_2 23 rfl rfl)
theorem dX10_canBe_70 : decode cX10_canBe 70 = .ok (.iadd, 1) := dk_96 (dk_at dksX10_canBe_3 0 rfl rfl)
theorem dX10_canBe_71 : decode cX10_canBe 71 = .ok (.iaload, 1) := dk_46 (dk_at dksX10_canBe_3 1 rfl rfl)
theorem dX10_canBe_72 : decode cX10_canBe 72 = .ok (.ifCond .eq 5, 3) := dk_153 0 5 (dk_at dksX10_canBe_3 2 rfl rfl)
theorem dX10_canBe_75 : decode cX10_canBe 75 = .ok (.iconst 0, 1) := dk_3 (dk_at dksX10_canBe_3 5 rfl rfl)
theorem dX10_canBe_76 : decode cX10_canBe 76 = .ok (.ireturn, 1) := dk_172 (dk_at dksX10_canBe_3 6 rfl rfl)
theorem dX10_canBe_77 : decode cX10_canBe 77 = .ok (.iinc 4 1, 3) := dk_132 4 1 (dk_at dksX10_canBe_3 7 rfl rfl)
theorem dX10_canBe_80 : decode cX10_canBe 80 = .ok (.goto (-64), 3) := dk_167 255 192 (dk_at dksX10_canBe_3 10 rfl rfl)
theorem dX10_canBe_83 : decode cX10_canBe 83 = .ok (.iconst 1, 1) := dk_4 (dk_at dksX10_canBe_3 13 rfl rfl)
theorem dX10_canBe_84 : decode cX10_canBe 84 = .ok (.ireturn, 1) := dk_172 (dk_at dksX10_canBe_3 14 rfl rfl)
theorem dn_X10_canBe : yX10_canBe.cls ≠ "java/lang/invoke/MethodHandle" ∧ yX10_canBe.cls ≠ "java/lang/invoke/VarHandle" ∧ (parseMethodDescriptor yX10_canBe.desc).map (fun d => d.parameters.length) = some 3 := by decide +kernel
noncomputable def M_X10_canBe (p1 : Int32) (p2 : Int32) (p3 : Int32) : TM Bool := if p3 = 0 then TM.pure true else TM.bind (M_X10_layLeaf p1 p2 p3) (fun v1 => TM.loop (S := Int32) (fun s2 => TM.bind (tI 26) (fun v5 => if v5 ≤ s2 then TM.pure (Sum.inr true) else TM.bind (tA 24 4 s2) (fun v6 => TM.bind (tA 25 4 s2) (fun v7 => TM.bind (M_X10_isCell v6 v7) (fun v8 => cond v8 (TM.bind (tA 25 4 s2) (fun v9 => TM.bind (tA 24 4 s2) (fun v10 => TM.bind (tA 14 704 ((10 + (10 * v9)) + v10)) (fun v11 => if v11 = 0 then TM.lv (s2 + 1) (fun v12 => TM.pure (Sum.inl v12)) else TM.pure (Sum.inr false))))) (TM.pure (Sum.inr false))))))) 0)
set_option maxHeartbeats 4000000 in
theorem ct_X10_canBe (G : gG) (am : Nat) (p1 : Int32) (p2 : Int32) (p3 : Int32) : gCtM G am yX10_canBe cX10_canBe 5 (some .boolean) 2 55 [.ref am, .int p1, .int p2, .int p3] (M_X10_canBe p1 p2 p3) (fun x : Bool => some (.int (b2i x))) := by
  refine gCtM.of (by decide) (Nat.le_of_ble_eq_true rfl) (fun K hn ms ms' r hG X hK hd ho => ?_)
  subst hG
  have X : gX K cX10_canBe 5 "BitingDoorsModel" "canBe" (some .boolean) 2 55 := X
  show V K 5 (mkM am hn ms) 0 [(0, .ref am), (1, .int p1), (2, .int p2), (3, .int p3)] []
  unfold M_X10_canBe at hd
  refine v_iload_n X dX10_canBe_0 3 3 rfl rfl ?_
  refine v_if_ne (tgt := 6) X dX10_canBe_1 (by decide) (fun q => ?_) (fun q => ?_)
  · have hd := Tite_f q hd
    refine v_aload_n X dX10_canBe_6 0 0 rfl rfl ?_
    refine v_iload_n X dX10_canBe_7 1 1 rfl rfl ?_
    refine v_iload_n X dX10_canBe_8 2 2 rfl rfl ?_
    refine v_iload_n X dX10_canBe_9 3 3 rfl rfl ?_
    refine t_callV X hK hd (ct_X10_layLeaf _ am p1 p2 p3) (lw_V q2002 q2004 qs60 q120 q2005) ⟨rfl, dn_X10_layLeaf⟩ rfl ⟨by decide, by decide⟩ rfl (Nat.le_of_ble_eq_true rfl) dX10_canBe_10 (fun v1 ms hd => ?_)
    show V K 5 (mkM am hn ms) 13 [(0, .ref am), (1, .int p1), (2, .int p2), (3, .int p3)] []
    refine v_iconst (v := 0) X dX10_canBe_13 (by decide) ?_
    refine v_istore (lv2 := [(4, .int 0), (0, .ref am), (1, .int p1), (2, .int p2), (3, .int p3)]) X dX10_canBe_14 (by decide) rfl ?_
    refine v_loc [1, 0] rfl ?_
    refine Tloop_ind hd (fun (s2 : Int32) m => V K 5 (mkM am hn m) 16 [(0, .ref am), (4, .int s2)] []) (fun s2 ms x m2 hd ih3 ho4 => ?_)
    refine v_iload X dX10_canBe_16 1 rfl ?_
    refine v_aload_n X dX10_canBe_18 0 0 rfl rfl ?_
    refine t_getI X hd rfl fl_X10_271 dX10_canBe_19 (fun v5 hd => ?_)
    refine v_icmp_ge (tgt := 83) X dX10_canBe_22 (by decide) (fun q => ?_) (fun q => ?_)
    · have hd := Tite_t q hd
      refine v_iconst (v := 1) X dX10_canBe_83 (by decide) ?_
      have hd := Tlp_out hd ho4
      exact t_zret X hK hd rfl ho dX10_canBe_84
    · have hd := Tite_f q hd
      refine v_aload_n X dX10_canBe_25 0 0 rfl rfl ?_
      refine v_aload_n X dX10_canBe_26 0 0 rfl rfl ?_
      refine t_getA (j := 9) X rfl fl_X10_39 dX10_canBe_27 ?_
      refine v_iload X dX10_canBe_30 1 rfl ?_
      refine t_iald (j := 9) X hd rfl dX10_canBe_32 (fun v6 hd => ?_)
      refine v_aload_n X dX10_canBe_33 0 0 rfl rfl ?_
      refine t_getA (j := 10) X rfl fl_X10_42 dX10_canBe_34 ?_
      refine v_iload X dX10_canBe_37 1 rfl ?_
      refine t_iald (j := 10) X hd rfl dX10_canBe_39 (fun v7 hd => ?_)
      refine t_callV X hK hd (ct_X10_isCell _ am v6 v7) (lw_V q1974 q1976 qs55 q120 q1977) ⟨rfl, dn_X10_isCell⟩ rfl ⟨by decide, by decide⟩ rfl (Nat.le_of_ble_eq_true rfl) dX10_canBe_40 (fun v8 ms hd => ?_)
      show V K 5 (mkM am hn ms) 43 [(0, .ref am), (4, .int s2)] [.int (b2i v8)]
      refine v_ifZ_eq (tgt := 75) X dX10_canBe_43 (by decide) (fun q => ?_) (fun q => ?_)
      · have hd := Tcnd_f q hd
        refine v_iconst (v := 0) X dX10_canBe_75 (by decide) ?_
        have hd := Tlp_out hd ho4
        exact t_zret X hK hd rfl ho dX10_canBe_76
      · have hd := Tcnd_t q hd
        refine v_aload_n X dX10_canBe_46 0 0 rfl rfl ?_
        refine t_getA (j := 1) X rfl fl_X10_13 dX10_canBe_47 ?_
        refine v_bipush (v := 10) X dX10_canBe_50 (by decide) ?_
        refine v_bipush (v := 10) X dX10_canBe_52 (by decide) ?_
        refine v_aload_n X dX10_canBe_54 0 0 rfl rfl ?_
        refine t_getA (j := 10) X rfl fl_X10_42 dX10_canBe_55 ?_
        refine v_iload X dX10_canBe_58 1 rfl ?_
        refine t_iald (j := 10) X hd rfl dX10_canBe_60 (fun v9 hd => ?_)
        refine v_imul X dX10_canBe_61 ?_
        refine v_iadd X dX10_canBe_62 ?_
        refine v_aload_n X dX10_canBe_63 0 0 rfl rfl ?_
        refine t_getA (j := 9) X rfl fl_X10_39 dX10_canBe_64 ?_
        refine v_iload X dX10_canBe_67 1 rfl ?_
        refine t_iald (j := 9) X hd rfl dX10_canBe_69 (fun v10 hd => ?_)
        refine v_iadd X dX10_canBe_70 ?_
        refine t_iald (j := 1) X hd rfl dX10_canBe_71 (fun v11 hd => ?_)
        refine v_if_eq (tgt := 77) X dX10_canBe_72 (by decide) (fun q => ?_) (fun q => ?_)
        · have hd := Tite_t q hd
          refine t_iincL (lv2 := fun v12 => [(4, .int v12), (0, .ref am)]) X hd dX10_canBe_77 1 rfl (by decide : Int32.ofInt 1 = 1) (by decide) (fun v12 => rfl) (fun v12 hd => ?_)
          refine v_goto (tgt := 16) X dX10_canBe_80 (by decide) ?_
          exact v_loc [1, 0] rfl (Tlp_in (P := fun (s2 : Int32) m => V K 5 (mkM am hn m) 16 [(0, .ref am), (4, .int s2)] []) hd ih3)
        · have hd := Tite_f q hd
          refine v_iconst (v := 0) X dX10_canBe_75 (by decide) ?_
          have hd := Tlp_out hd ho4
          exact t_zret X hK hd rfl ho dX10_canBe_76
  · have hd := Tite_t q hd
    refine v_iconst (v := 1) X dX10_canBe_4 (by decide) ?_
    exact t_zret X hK hd rfl ho dX10_canBe_5
def dkwX10_goalOf_1 : List UInt8 := [5, 167, 0, 4, 4, 172]
abbrev dktX10_goalOf_1 : List UInt8 := dkwX10_goalOf_1 ++ []
def dkwX10_goalOf_0 : List UInt8 := [27, 8, 160, 0, 7, 3, 167, 0, 23, 42, 28, 42, 28, 7, 182, 1, 11, 5, 182, 1, 26, 153, 0, 7]
abbrev dktX10_goalOf_0 : List UInt8 := dkwX10_goalOf_0 ++ dktX10_goalOf_1
theorem dksX10_goalOf_0 : cX10_goalOf.data.toList.drop 0 = dktX10_goalOf_0 := by decide +kernel
theorem dksX10_goalOf_1 : cX10_goalOf.data.toList.drop 24 = dktX10_goalOf_1 := dk_seg dksX10_goalOf_0 24 rfl rfl
theorem dX10_goalOf_0 : decode cX10_goalOf 0 = .ok (.iload_n 1, 1) := dk_27 (dk_at dksX10_goalOf_0 0 rfl rfl)
theorem dX10_goalOf_1 : decode cX10_goalOf 1 = .ok (.iconst 5, 1) := dk_8 (dk_at dksX10_goalOf_0 1 rfl rfl)
theorem dX10_goalOf_2 : decode cX10_goalOf 2 = .ok (.if_icmp .ne 7, 3) := dk_160 0 7 (dk_at dksX10_goalOf_0 2 rfl rfl)
theorem dX10_goalOf_5 : decode cX10_goalOf 5 = .ok (.iconst 0, 1) := dk_3 (dk_at dksX10_goalOf_0 5 rfl rfl)
theorem dX10_goalOf_6 : decode cX10_goalOf 6 = .ok (.goto 23, 3) := dk_167 0 23 (dk_at dksX10_goalOf_0 6 rfl rfl)
theorem dX10_goalOf_9 : decode cX10_goalOf 9 = .ok (.aload_n 0, 1) := dk_42 (dk_at dksX10_goalOf_0 9 rfl rfl)
theorem dX10_goalOf_10 : decode cX10_goalOf 10 = .ok (.iload_n 2, 1) := dk_28 (dk_at dksX10_goalOf_0 10 rfl rfl)
theorem dX10_goalOf_11 : decode cX10_goalOf 11 = .ok (.aload_n 0, 1) := dk_42 (dk_at dksX10_goalOf_0 11 rfl rfl)
theorem dX10_goalOf_12 : decode cX10_goalOf 12 = .ok (.iload_n 2, 1) := dk_28 (dk_at dksX10_goalOf_0 12 rfl rfl)
theorem dX10_goalOf_13 : decode cX10_goalOf 13 = .ok (.iconst 4, 1) := dk_7 (dk_at dksX10_goalOf_0 13 rfl rfl)
theorem dX10_goalOf_14 : decode cX10_goalOf 14 = .ok (.invokevirtual 267, 3) := dk_182 1 11 (dk_at dksX10_goalOf_0 14 rfl rfl)
theorem dX10_goalOf_17 : decode cX10_goalOf 17 = .ok (.iconst 2, 1) := dk_5 (dk_at dksX10_goalOf_0 17 rfl rfl)
theorem dX10_goalOf_18 : decode cX10_goalOf 18 = .ok (.invokevirtual 282, 3) := dk_182 1 26 (dk_at dksX10_goalOf_0 18 rfl rfl)
theorem dX10_goalOf_21 : decode cX10_goalOf 21 = .ok (.ifCond .eq 7, 3) := dk_153 0 7 (dk_at dksX10_goalOf_0 21 rfl rfl)
theorem dX10_goalOf_24 : decode cX10_goalOf 24 = .ok (.iconst 2, 1) := dk_5 (dk_at dksX10_goalOf_1 0 rfl rfl)
theorem dX10_goalOf_25 : decode cX10_goalOf 25 = .ok (.goto 4, 3) := dk_167 0 4 (dk_at dksX10_goalOf_1 1 rfl rfl)
theorem dX10_goalOf_28 : decode cX10_goalOf 28 = .ok (.iconst 1, 1) := dk_4 (dk_at dksX10_goalOf_1 4 rfl rfl)
theorem dX10_goalOf_29 : decode cX10_goalOf 29 = .ok (.ireturn, 1) := dk_172 (dk_at dksX10_goalOf_1 5 rfl rfl)
theorem dn_X10_goalOf : yX10_goalOf.cls ≠ "java/lang/invoke/MethodHandle" ∧ yX10_goalOf.cls ≠ "java/lang/invoke/VarHandle" ∧ (parseMethodDescriptor yX10_goalOf.desc).map (fun d => d.parameters.length) = some 2 := by decide +kernel
noncomputable def M_X10_goalOf (p1 : Int32) (p2 : Int32) : TM Int32 := TM.bind ((if p1 = 5 then TM.pure 0 else TM.bind (M_X10_of p2 4) (fun v2 => TM.bind (M_X10_canBe p2 v2 2) (fun v3 => cond v3 (TM.pure 2) (TM.pure 1))) : TM (Int32))) (fun u1 => TM.pure u1)
set_option maxHeartbeats 4000000 in
theorem ct_X10_goalOf (G : gG) (am : Nat) (p1 : Int32) (p2 : Int32) : gCtM G am yX10_goalOf cX10_goalOf 3 (some .int) 3 79 [.ref am, .int p1, .int p2] (M_X10_goalOf p1 p2) (fun x : Int32 => some (.int x)) := by
  refine gCtM.of (by decide) (Nat.le_of_ble_eq_true rfl) (fun K hn ms ms' r hG X hK hd ho => ?_)
  subst hG
  have X : gX K cX10_goalOf 3 "BitingDoorsModel" "goalOf" (some .int) 3 79 := X
  show V K 3 (mkM am hn ms) 0 [(0, .ref am), (1, .int p1), (2, .int p2)] []
  unfold M_X10_goalOf at hd
  refine v_iload_n X dX10_goalOf_0 1 1 rfl rfl ?_
  refine v_iconst (v := 5) X dX10_goalOf_1 (by decide) ?_
  obtain ⟨u1, m1, hd, hd2⟩ := TM.bind_some hd
  have KJ : V K 3 (mkM am hn m1) 29 [] [.int u1] := by
    clear hd
    have hd := hd2
    exact t_iret X hK hd ho dX10_goalOf_29
  clear hd2
  refine v_icmp_ne (tgt := 9) X dX10_goalOf_2 (by decide) (fun q => ?_) (fun q => ?_)
  · have hd := Tite_f q hd
    refine v_aload_n X dX10_goalOf_9 0 0 rfl rfl ?_
    refine v_iload_n X dX10_goalOf_10 2 2 rfl rfl ?_
    refine v_aload_n X dX10_goalOf_11 0 0 rfl rfl ?_
    refine v_iload_n X dX10_goalOf_12 2 2 rfl rfl ?_
    refine v_iconst (v := 4) X dX10_goalOf_13 (by decide) ?_
    refine t_callV X hK hd (ct_X10_of _ am p2 4) (lw_V q1994 q1996 qs59 q120 q1997) ⟨rfl, dn_X10_of⟩ rfl ⟨by decide, by decide⟩ rfl (Nat.le_of_ble_eq_true rfl) dX10_goalOf_14 (fun v2 ms hd => ?_)
    show V K 3 (mkM am hn ms) 17 [(0, .ref am), (1, .int p1), (2, .int p2)] [.int v2, .int p2, .ref am]
    refine v_iconst (v := 2) X dX10_goalOf_17 (by decide) ?_
    refine t_callV X hK hd (ct_X10_canBe _ am p2 v2 2) (lw_V q2014 q2016 qs62 q120 q2017) ⟨rfl, dn_X10_canBe⟩ rfl ⟨by decide, by decide⟩ rfl (Nat.le_of_ble_eq_true rfl) dX10_goalOf_18 (fun v3 ms hd => ?_)
    show V K 3 (mkM am hn ms) 21 [(0, .ref am), (1, .int p1), (2, .int p2)] [.int (b2i v3)]
    refine v_ifZ_eq (tgt := 28) X dX10_goalOf_21 (by decide) (fun q => ?_) (fun q => ?_)
    · have hd := Tcnd_f q hd
      refine v_iconst (v := 1) X dX10_goalOf_28 (by decide) ?_
      exact v_loc [] rfl (t_at (P := fun (u1 : Int32) m => V K 3 (mkM am hn m) 29 [] [.int u1]) hd KJ)
    · have hd := Tcnd_t q hd
      refine v_iconst (v := 2) X dX10_goalOf_24 (by decide) ?_
      refine v_goto (tgt := 29) X dX10_goalOf_25 (by decide) ?_
      exact v_loc [] rfl (t_at (P := fun (u1 : Int32) m => V K 3 (mkM am hn m) 29 [] [.int u1]) hd KJ)
  · have hd := Tite_t q hd
    refine v_iconst (v := 0) X dX10_goalOf_5 (by decide) ?_
    refine v_goto (tgt := 29) X dX10_goalOf_6 (by decide) ?_
    exact v_loc [] rfl (t_at (P := fun (u1 : Int32) m => V K 3 (mkM am hn m) 29 [] [.int u1]) hd KJ)
def dkwX10_isAt_5 : List UInt8 := [167, 255, 160, 132, 2, 1, 167, 255, 147, 3, 172]
abbrev dktX10_isAt_5 : List UInt8 := dkwX10_isAt_5 ++ []
def dkwX10_isAt_4 : List UInt8 := [17, 0, 210, 16, 10, 21, 5, 104, 96, 21, 4, 96, 46, 27, 4, 96, 160, 0, 5, 4, 172, 132, 3, 1]
abbrev dktX10_isAt_4 : List UInt8 := dkwX10_isAt_4 ++ dktX10_isAt_5
def dkwX10_isAt_3 : List UInt8 := [180, 0, 81, 16, 10, 21, 5, 104, 21, 4, 96, 46, 27, 4, 96, 159, 0, 26, 42, 180, 0, 13]
abbrev dktX10_isAt_3 : List UInt8 := dkwX10_isAt_3 ++ dktX10_isAt_4
def dkwX10_isAt_2 : List UInt8 := [154, 0, 7, 28, 153, 0, 61, 42, 21, 4, 21, 5, 182, 1, 2, 154, 0, 6, 167, 0, 47, 42]
abbrev dktX10_isAt_2 : List UInt8 := dkwX10_isAt_2 ++ dktX10_isAt_3
def dkwX10_isAt_1 : List UInt8 := [42, 180, 1, 98, 16, 10, 112, 29, 96, 54, 4, 42, 180, 1, 98, 16, 10, 108, 28, 96, 54, 5, 29]
abbrev dktX10_isAt_1 : List UInt8 := dkwX10_isAt_1 ++ dktX10_isAt_2
def dkwX10_isAt_0 : List UInt8 := [42, 180, 1, 98, 2, 160, 0, 5, 3, 172, 2, 61, 28, 5, 162, 0, 110, 2, 62, 29, 5, 162, 0, 97]
abbrev dktX10_isAt_0 : List UInt8 := dkwX10_isAt_0 ++ dktX10_isAt_1
theorem dksX10_isAt_0 : cX10_isAt.data.toList.drop 0 = dktX10_isAt_0 := by decide +kernel
theorem dksX10_isAt_1 : cX10_isAt.data.toList.drop 24 = dktX10_isAt_1 := dk_seg dksX10_isAt_0 24 rfl rfl
theorem dksX10_isAt_2 : cX10_isAt.data.toList.drop 47 = dktX10_isAt_2 := dk_seg dksX10_isAt_1 23 rfl rfl
theorem dksX10_isAt_3 : cX10_isAt.data.toList.drop 69 = dktX10_isAt_3 := dk_seg dksX10_isAt_2 22 rfl rfl
theorem dksX10_isAt_4 : cX10_isAt.data.toList.drop 91 = dktX10_isAt_4 := dk_seg dksX10_isAt_3 22 rfl rfl
theorem dksX10_isAt_5 : cX10_isAt.data.toList.drop 115 = dktX10_isAt_5 := dk_seg dksX10_isAt_4 24 rfl rfl
theorem dX10_isAt_0 : decode cX10_isAt 0 = .ok (.aload_n 0, 1) := dk_42 (dk_at dksX10_isAt_0 0 rfl rfl)
theorem dX10_isAt_1 : decode cX10_isAt 1 = .ok (.getfield 354, 3) := dk_180 1 98 (dk_at dksX10_isAt_0 1 rfl rfl)
theorem dX10_isAt_4 : decode cX10_isAt 4 = .ok (.iconst (-1), 1) := dk_2 (dk_at dksX10_isAt_0 4 rfl rfl)
theorem dX10_isAt_5 : decode cX10_isAt 5 = .ok (.if_icmp .ne 5, 3) := dk_160 0 5 (dk_at dksX10_isAt_0 5 rfl rfl)
theorem dX10_isAt_8 : decode cX10_isAt 8 = .ok (.iconst 0, 1) := dk_3 (dk_at dksX10_isAt_0 8 rfl rfl)
theorem dX10_isAt_9 : decode cX10_isAt 9 = .ok (.ireturn, 1) := dk_172 (dk_at dksX10_isAt_0 9 rfl rfl)
theorem dX10_isAt_10 : decode cX10_isAt 10 = .ok (.iconst (-1), 1) := dk_2 (dk_at dksX10_isAt_0 10 rfl rfl)
theorem dX10_isAt_11 : decode cX10_isAt 11 = .ok (.istore_n 2, 1) := dk_61 (dk_at dksX10_isAt_0 11 rfl rfl)
theorem dX10_isAt_12 : decode cX10_isAt 12 = .ok (.iload_n 2, 1) := dk_28 (dk_at dksX10_isAt_0 12 rfl rfl)
theorem dX10_isAt_13 : decode cX10_isAt 13 = .ok (.iconst 2, 1) := dk_5 (dk_at dksX10_isAt_0 13 rfl rfl)
theorem dX10_isAt_14 : decode cX10_isAt 14 = .ok (.if_icmp .ge 110, 3) := dk_162 0 110 (dk_at dksX10_isAt_0 14 rfl rfl)
theorem dX10_isAt_17 : decode cX10_isAt 17 = .ok (.iconst (-1), 1) := dk_2 (dk_at dksX10_isAt_0 17 rfl rfl)
theorem dX10_isAt_18 : decode cX10_isAt 18 = .ok (.istore_n 3, 1) := dk_62 (dk_at dksX10_isAt_0 18 rfl rfl)
theorem dX10_isAt_19 : decode cX10_isAt 19 = .ok (.iload_n 3, 1) := dk_29 (dk_at dksX10_isAt_0 19 rfl rfl)
theorem dX10_isAt_20 : decode cX10_isAt 20 = .ok (.iconst 2, 1) := dk_5 (dk_at dksX10_isAt_0 20 rfl rfl)
theorem dX10_isAt_21 : decode cX10_isAt 21 = .ok (.if_icmp .ge 97, 3) := dk_162 0 97 (dk_at dksX10_isAt_0 21 rfl rfl)
theorem dX10_isAt_24 : decode cX10_isAt 24 = .ok (.aload_n 0, 1) := dk_42 (dk_at dksX10_isAt_1 0 rfl rfl)
theorem dX10_isAt_25 : decode cX10_isAt 25 = .ok (.getfield 354, 3) := dk_180 1 98 (dk_at dksX10_isAt_1 1 rfl rfl)
theorem dX10_isAt_28 : decode cX10_isAt 28 = .ok (.bipush 10, 2) := dk_16 10 (dk_at dksX10_isAt_1 4 rfl rfl)
theorem dX10_isAt_30 : decode cX10_isAt 30 = .ok (.irem, 1) := dk_112 (dk_at dksX10_isAt_1 6 rfl rfl)
theorem dX10_isAt_31 : decode cX10_isAt 31 = .ok (.iload_n 3, 1) := dk_29 (dk_at dksX10_isAt_1 7 rfl rfl)
theorem dX10_isAt_32 : decode cX10_isAt 32 = .ok (.iadd, 1) := dk_96 (dk_at dksX10_isAt_1 8 rfl rfl)
theorem dX10_isAt_33 : decode cX10_isAt 33 = .ok (.istore 4, 2) := dk_54 4 (dk_at dksX10_isAt_1 9 rfl rfl)
theorem dX10_isAt_35 : decode cX10_isAt 35 = .ok (.aload_n 0, 1) := dk_42 (dk_at dksX10_isAt_1 11 rfl rfl)
theorem dX10_isAt_36 : decode cX10_isAt 36 = .ok (.getfield 354, 3) := dk_180 1 98 (dk_at dksX10_isAt_1 12 rfl rfl)
theorem dX10_isAt_39 : decode cX10_isAt 39 = .ok (.bipush 10, 2) := dk_16 10 (dk_at dksX10_isAt_1 15 rfl rfl)
theorem dX10_isAt_41 : decode cX10_isAt 41 = .ok (.idiv, 1) := dk_108 (dk_at dksX10_isAt_1 17 rfl rfl)
theorem dX10_isAt_42 : decode cX10_isAt 42 = .ok (.iload_n 2, 1) := dk_28 (dk_at dksX10_isAt_1 18 rfl rfl)
theorem dX10_isAt_43 : decode cX10_isAt 43 = .ok (.iadd, 1) := dk_96 (dk_at dksX10_isAt_1 19 rfl rfl)
theorem dX10_isAt_44 : decode cX10_isAt 44 = .ok (.istore 5, 2) := dk_54 5 (dk_at dksX10_isAt_1 20 rfl rfl)
theorem dX10_isAt_46 : decode cX10_isAt 46 = .ok (.iload_n 3, 1) := dk_29 (dk_at dksX10_isAt_1 22 rfl rfl)
theorem dX10_isAt_47 : decode cX10_isAt 47 = .ok (.ifCond .ne 7, 3) := dk_154 0 7 (dk_at dksX10_isAt_2 0 rfl rfl)
theorem dX10_isAt_50 : decode cX10_isAt 50 = .ok (.iload_n 2, 1) := dk_28 (dk_at dksX10_isAt_2 3 rfl rfl)
theorem dX10_isAt_51 : decode cX10_isAt 51 = .ok (.ifCond .eq 61, 3) := dk_153 0 61 (dk_at dksX10_isAt_2 4 rfl rfl)
theorem dX10_isAt_54 : decode cX10_isAt 54 = .ok (.aload_n 0, 1) := dk_42 (dk_at dksX10_isAt_2 7 rfl rfl)
theorem dX10_isAt_55 : decode cX10_isAt 55 = .ok (.iload 4, 2) := dk_21 4 (dk_at dksX10_isAt_2 8 rfl rfl)
theorem dX10_isAt_57 : decode cX10_isAt 57 = .ok (.iload 5, 2) := dk_21 5 (dk_at dksX10_isAt_2 10 rfl rfl)
theorem dX10_isAt_59 : decode cX10_isAt 59 = .ok (.invokevirtual 258, 3) := dk_182 1 2 (dk_at dksX10_isAt_2 12 rfl rfl)
theorem dX10_isAt_62 : decode cX10_isAt 62 = .ok (.ifCond .ne 6, 3) := dk_154 0 6 (dk_at dksX10_isAt_2 15 rfl rfl)
theorem dX10_isAt_65 : decode cX10_isAt 65 = .ok (.goto 47, 3) := dk_167 0 47 (dk_at dksX10_isAt_2 18 rfl rfl)
theorem dX10_isAt_68 : decode cX10_isAt 68 = .ok (.aload_n 0, 1) := dk_42 (dk_at dksX10_isAt_2 21 rfl rfl)
theorem dX10_isAt_69 : decode cX10_isAt 69 = .ok (.getfield 81, 3) := dk_180 0 81 (dk_at dksX10_isAt_3 0 rfl rfl)
theorem dX10_isAt_72 : decode cX10_isAt 72 = .ok (.bipush 10, 2) := dk_16 10 (dk_at dksX10_isAt_3 3 rfl rfl)
theorem dX10_isAt_74 : decode cX10_isAt 74 = .ok (.iload 5, 2) := dk_21 5 (dk_at dksX10_isAt_3 5 rfl rfl)
theorem dX10_isAt_76 : decode cX10_isAt 76 = .ok (.imul, 1) := dk_104 (dk_at dksX10_isAt_3 7 rfl rfl)
theorem dX10_isAt_77 : decode cX10_isAt 77 = .ok (.iload 4, 2) := dk_21 4 (dk_at dksX10_isAt_3 8 rfl rfl)
theorem dX10_isAt_79 : decode cX10_isAt 79 = .ok (.iadd, 1) := dk_96 (dk_at dksX10_isAt_3 10 rfl rfl)
theorem dX10_isAt_80 : decode cX10_isAt 80 = .ok (.iaload, 1) := dk_46 (dk_at dksX10_isAt_3 11 rfl rfl)
theorem dX10_isAt_81 : decode cX10_isAt 81 = .ok (.iload_n 1, 1) := dk_27 (dk_at dksX10_isAt_3 12 rfl rfl)
theorem dX10_isAt_82 : decode cX10_isAt 82 = .ok (.iconst 1, 1) := dk_4 (dk_at dksX10_isAt_3 13 rfl rfl)
theorem dX10_isAt_83 : decode cX10_isAt 83 = .ok (.iadd, 1) := dk_96 (dk_at dksX10_isAt_3 14 rfl rfl)
theorem dX10_isAt_84 : decode cX10_isAt 84 = .ok (.if_icmp .eq 26, 3) := dk_159 0 26 (dk_at dksX10_isAt_3 15 rfl rfl)
theorem dX10_isAt_87 : decode cX10_isAt 87 = .ok (.aload_n 0, 1) := dk_42 (dk_at dksX10_isAt_3 18 rfl rfl)
theorem dX10_isAt_88 : decode cX10_isAt 88 = .ok (.getfield 13, 3) := dk_180 0 13 (dk_at dksX10_isAt_3 19 rfl rfl)
theorem dX10_isAt_91 : decode cX10_isAt 91 = .ok (.sipush 210, 3) := dk_17 0 210 (dk_at dksX10_isAt_4 0 rfl rfl)
theorem dX10_isAt_94 : decode cX10_isAt 94 = .ok (.bipush 10, 2) := dk_16 10 (dk_at dksX10_isAt_4 3 rfl rfl)
theorem dX10_isAt_96 : decode cX10_isAt 96 = .ok (.iload 5, 2) := dk_21 5 (dk_at dksX10_isAt_4 5 rfl rfl)
theorem dX10_isAt_98 : decode cX10_isAt 98 = .ok (.imul, 1) := dk_104 (dk_at dksX10_isAt_4 7 rfl rfl)
theorem dX10_isAt_99 : decode cX10_isAt 99 = .ok (.iadd, 1) := dk_96 (dk_at dksX10_isAt_4 8 rfl rfl)
theorem dX10_isAt_100 : decode cX10_isAt 100 = .ok (.iload 4, 2) := dk_21 4 (dk_at dksX10_isAt_4 9 rfl rfl)
theorem dX10_isAt_102 : decode cX10_isAt 102 = .ok (.iadd, 1) := dk_96 (dk_at dksX10_isAt_4 11 rfl rfl)
theorem dX10_isAt_103 : decode cX10_isAt 103 = .ok (.iaload, 1) := dk_46 (dk_at dksX10_isAt_4 12 rfl rfl)
theorem dX10_isAt_104 : decode cX10_isAt 104 = .ok (.iload_n 1, 1) := dk_27 (dk_at dksX10_isAt_4 13 rfl rfl)
theorem dX10_isAt_105 : decode cX10_isAt 105 = .ok (.iconst 1, 1) := dk_4 (dk_at dksX10_isAt_4 14 rfl rfl)
theorem dX10_isAt_106 : decode cX10_isAt 106 = .ok (.iadd, 1) := dk_96 (dk_at dksX10_isAt_4 15 rfl rfl)
theorem dX10_isAt_107 : decode cX10_isAt 107 = .ok (.if_icmp .ne 5, 3) := dk_160 0 5 (dk_at dksX10_isAt_4 16 rfl rfl)
theorem dX10_isAt_110 : decode cX10_isAt 110 = .ok (.iconst 1, 1) := dk_4 (dk_at dksX10_isAt_4 19 rfl rfl)
theorem dX10_isAt_111 : decode cX10_isAt 111 = .ok (.ireturn, 1) := dk_172 (dk_at dksX10_isAt_4 20 rfl rfl)
theorem dX10_isAt_112 : decode cX10_isAt 112 = .ok (.iinc 3 1, 3) := dk_132 3 1 (dk_at dksX10_isAt_4 21 rfl rfl)
theorem dX10_isAt_115 : decode cX10_isAt 115 = .ok (.goto (-96), 3) := dk_167 255 160 (dk_at dksX10_isAt_5 0 rfl rfl)
theorem dX10_isAt_118 : decode cX10_isAt 118 = .ok (.iinc 2 1, 3) := dk_132 2 1 (dk_at dksX10_isAt_5 3 rfl rfl)
theorem dX10_isAt_121 : decode cX10_isAt 121 = .ok (.goto (-109), 3) := dk_167 255 147 (dk_at dksX10_isAt_5 6 rfl rfl)
theorem dX10_isAt_124 : decode cX10_isAt 124 = .ok (.iconst 0, 1) := dk_3 (dk_at dksX10_isAt_5 9 rfl rfl)
theorem dX10_isAt_125 : decode cX10_isAt 125 = .ok (.ireturn, 1) := dk_172 (dk_at dksX10_isAt_5 10 rfl rfl)
theorem fl_X10_354 : gFl "BitingDoorsModel" 354 [8] 45 := by
  intro args s hts hN ci hc
  simp only [List.mem_cons, List.not_mem_nil, or_false] at hc
  subst hc
  exact ⟨RX10, TX10, 64, "BitingDoorsModel", gCl_X10, in_X10, by decide, Or.inl (hts _ q1695), fun _ h => h⟩
theorem fl_X10_81 : gFl "BitingDoorsModel" 81 [8] 44 := by
  intro args s hts hN ci hc
  simp only [List.mem_cons, List.not_mem_nil, or_false] at hc
  subst hc
  exact ⟨RX10, TX10, 64, "BitingDoorsModel", gCl_X10, in_X10, by decide, Or.inl (hts _ q1694), fun _ h => h⟩
theorem dn_X10_isAt : yX10_isAt.cls ≠ "java/lang/invoke/MethodHandle" ∧ yX10_isAt.cls ≠ "java/lang/invoke/VarHandle" ∧ (parseMethodDescriptor yX10_isAt.desc).map (fun d => d.parameters.length) = some 1 := by decide +kernel
noncomputable def M_X10_isAt (p1 : Int32) : TM Bool := TM.bind (tI 45) (fun v1 => if v1 = (-1) then TM.pure false else TM.loop (S := Int32) (fun s2 => if 2 ≤ s2 then TM.pure (Sum.inr false) else TM.loop (S := Int32) (fun s5 => if 2 ≤ s5 then TM.lv (s2 + 1) (fun v8 => TM.pure (Sum.inr (Sum.inl v8))) else TM.bind (tI 45) (fun v9 => TM.lv ((v9 - v9 / 10 * 10) + s5) (fun v10 => TM.bind (tI 45) (fun v11 => TM.lv ((v11 / 10) + s2) (fun v12 => if s5 = 0 then if s2 = 0 then TM.lv (s5 + 1) (fun v18 => TM.pure (Sum.inl v18)) else TM.bind (M_X10_isCell v10 v12) (fun v19 => cond v19 (TM.bind (tA 44 100 ((10 * v12) + v10)) (fun v20 => if v20 = (p1 + 1) then TM.pure (Sum.inr (Sum.inr true)) else TM.bind (tA 14 704 ((210 + (10 * v12)) + v10)) (fun v21 => if v21 = (p1 + 1) then TM.pure (Sum.inr (Sum.inr true)) else TM.lv (s5 + 1) (fun v22 => TM.pure (Sum.inl v22))))) (TM.lv (s5 + 1) (fun v23 => TM.pure (Sum.inl v23)))) else TM.bind (M_X10_isCell v10 v12) (fun v13 => cond v13 (TM.bind (tA 44 100 ((10 * v12) + v10)) (fun v14 => if v14 = (p1 + 1) then TM.pure (Sum.inr (Sum.inr true)) else TM.bind (tA 14 704 ((210 + (10 * v12)) + v10)) (fun v15 => if v15 = (p1 + 1) then TM.pure (Sum.inr (Sum.inr true)) else TM.lv (s5 + 1) (fun v16 => TM.pure (Sum.inl v16))))) (TM.lv (s5 + 1) (fun v17 => TM.pure (Sum.inl v17))))))))) (-1)) (-1))
set_option maxHeartbeats 4000000 in
theorem ct_X10_isAt (G : gG) (am : Nat) (p1 : Int32) : gCtM G am yX10_isAt cX10_isAt 6 (some .boolean) 1 22 [.ref am, .int p1] (M_X10_isAt p1) (fun x : Bool => some (.int (b2i x))) := by
  refine gCtM.of (by decide) (Nat.le_of_ble_eq_true rfl) (fun K hn ms ms' r hG X hK hd ho => ?_)
  subst hG
  have X : gX K cX10_isAt 6 "BitingDoorsModel" "isAt" (some .boolean) 1 22 := X
  show V K 6 (mkM am hn ms) 0 [(0, .ref am), (1, .int p1)] []
  unfold M_X10_isAt at hd
  refine v_aload_n X dX10_isAt_0 0 0 rfl rfl ?_
  refine t_getI X hd rfl fl_X10_354 dX10_isAt_1 (fun v1 hd => ?_)
  refine v_iconst (v := (-1)) X dX10_isAt_4 (by decide) ?_
  refine v_icmp_ne (tgt := 10) X dX10_isAt_5 (by decide) (fun q => ?_) (fun q => ?_)
  · have hd := Tite_f q hd
    refine v_iconst (v := (-1)) X dX10_isAt_10 (by decide) ?_
    refine v_istore_n (lv2 := [(2, .int (-1)), (0, .ref am), (1, .int p1)]) X dX10_isAt_11 2 rfl (by decide) rfl ?_
    refine v_loc [1, 2, 0] rfl ?_
    refine Tloop_ind hd (fun (s2 : Int32) m => V K 6 (mkM am hn m) 12 [(0, .ref am), (1, .int p1), (2, .int s2)] []) (fun s2 ms x m2 hd ih3 ho4 => ?_)
    refine v_iload_n X dX10_isAt_12 2 2 rfl rfl ?_
    refine v_iconst (v := 2) X dX10_isAt_13 (by decide) ?_
    refine v_icmp_ge (tgt := 124) X dX10_isAt_14 (by decide) (fun q => ?_) (fun q => ?_)
    · have hd := Tite_t q hd
      refine v_iconst (v := 0) X dX10_isAt_124 (by decide) ?_
      have hd := Tlp_out hd ho4
      exact t_zret X hK hd rfl ho dX10_isAt_125
    · have hd := Tite_f q hd
      refine v_iconst (v := (-1)) X dX10_isAt_17 (by decide) ?_
      refine v_istore_n (lv2 := [(3, .int (-1)), (0, .ref am), (1, .int p1), (2, .int s2)]) X dX10_isAt_18 3 rfl (by decide) rfl ?_
      refine v_loc [1, 2, 3, 0] rfl ?_
      refine Tloop_ind hd (fun (s5 : Int32) m => V K 6 (mkM am hn m) 19 [(0, .ref am), (1, .int p1), (2, .int s2), (3, .int s5)] []) (fun s5 ms x m2 hd ih6 ho7 => ?_)
      refine v_iload_n X dX10_isAt_19 3 3 rfl rfl ?_
      refine v_iconst (v := 2) X dX10_isAt_20 (by decide) ?_
      refine v_icmp_ge (tgt := 118) X dX10_isAt_21 (by decide) (fun q => ?_) (fun q => ?_)
      · have hd := Tite_t q hd
        refine t_iincL (lv2 := fun v8 => [(2, .int v8), (0, .ref am), (1, .int p1), (3, .int s5)]) X hd dX10_isAt_118 2 rfl (by decide : Int32.ofInt 1 = 1) (by decide) (fun v8 => rfl) (fun v8 hd => ?_)
        refine v_goto (tgt := 12) X dX10_isAt_121 (by decide) ?_
        have hd := Tlp_out hd ho7
        exact v_loc [1, 2, 0] rfl (Tlp_in (P := fun (s2 : Int32) m => V K 6 (mkM am hn m) 12 [(0, .ref am), (1, .int p1), (2, .int s2)] []) hd ih3)
      · have hd := Tite_f q hd
        refine v_aload_n X dX10_isAt_24 0 0 rfl rfl ?_
        refine t_getI X hd rfl fl_X10_354 dX10_isAt_25 (fun v9 hd => ?_)
        refine v_bipush (v := 10) X dX10_isAt_28 (by decide) ?_
        refine v_irem X dX10_isAt_30 (by decide) ?_
        refine v_iload_n X dX10_isAt_31 3 3 rfl rfl ?_
        refine v_iadd X dX10_isAt_32 ?_
        refine t_lvI hd (fun v10 hd => ?_)
        refine v_istore (lv2 := [(4, .int v10), (0, .ref am), (1, .int p1), (2, .int s2), (3, .int s5)]) X dX10_isAt_33 (by decide) rfl ?_
        refine v_aload_n X dX10_isAt_35 1 0 rfl rfl ?_
        refine t_getI X hd rfl fl_X10_354 dX10_isAt_36 (fun v11 hd => ?_)
        refine v_bipush (v := 10) X dX10_isAt_39 (by decide) ?_
        refine v_idiv X dX10_isAt_41 (by decide) ?_
        refine v_iload_n X dX10_isAt_42 3 2 rfl rfl ?_
        refine v_iadd X dX10_isAt_43 ?_
        refine t_lvI hd (fun v12 hd => ?_)
        refine v_istore (lv2 := [(5, .int v12), (4, .int v10), (0, .ref am), (1, .int p1), (2, .int s2), (3, .int s5)]) X dX10_isAt_44 (by decide) rfl ?_
        refine v_iload_n X dX10_isAt_46 5 3 rfl rfl ?_
        refine v_if_ne (tgt := 54) X dX10_isAt_47 (by decide) (fun q => ?_) (fun q => ?_)
        · have hd := Tite_f q hd
          refine v_aload_n X dX10_isAt_54 2 0 rfl rfl ?_
          refine v_iload X dX10_isAt_55 1 rfl ?_
          refine v_iload X dX10_isAt_57 0 rfl ?_
          refine t_callV X hK hd (ct_X10_isCell _ am v10 v12) (lw_V q1974 q1976 qs55 q120 q1977) ⟨rfl, dn_X10_isCell⟩ rfl ⟨by decide, by decide⟩ rfl (Nat.le_of_ble_eq_true rfl) dX10_isAt_59 (fun v13 ms hd => ?_)
          show V K 6 (mkM am hn ms) 62 [(5, .int v12), (4, .int v10), (0, .ref am), (1, .int p1), (2, .int s2), (3, .int s5)] [.int (b2i v13)]
          refine v_ifZ_ne (tgt := 68) X dX10_isAt_62 (by decide) (fun q => ?_) (fun q => ?_)
          · have hd := Tcnd_t q hd
            refine v_aload_n X dX10_isAt_68 2 0 rfl rfl ?_
            refine t_getA (j := 23) X rfl fl_X10_81 dX10_isAt_69 ?_
            refine v_bipush (v := 10) X dX10_isAt_72 (by decide) ?_
            refine v_iload X dX10_isAt_74 0 rfl ?_
            refine v_imul X dX10_isAt_76 ?_
            refine v_iload X dX10_isAt_77 1 rfl ?_
            refine v_iadd X dX10_isAt_79 ?_
            refine t_iald (j := 23) X hd rfl dX10_isAt_80 (fun v14 hd => ?_)
            refine v_iload_n X dX10_isAt_81 3 1 rfl rfl ?_
            refine v_iconst (v := 1) X dX10_isAt_82 (by decide) ?_
            refine v_iadd X dX10_isAt_83 ?_
            refine v_icmp_eq (tgt := 110) X dX10_isAt_84 (by decide) (fun q => ?_) (fun q => ?_)
            · have hd := Tite_t q hd
              refine v_iconst (v := 1) X dX10_isAt_110 (by decide) ?_
              have hd := Tlp_out hd ho7
              have hd := Tlp_out hd ho4
              exact t_zret X hK hd rfl ho dX10_isAt_111
            · have hd := Tite_f q hd
              refine v_aload_n X dX10_isAt_87 2 0 rfl rfl ?_
              refine t_getA (j := 1) X rfl fl_X10_13 dX10_isAt_88 ?_
              refine v_sipush (v := 210) X dX10_isAt_91 (by decide) ?_
              refine v_bipush (v := 10) X dX10_isAt_94 (by decide) ?_
              refine v_iload X dX10_isAt_96 0 rfl ?_
              refine v_imul X dX10_isAt_98 ?_
              refine v_iadd X dX10_isAt_99 ?_
              refine v_iload X dX10_isAt_100 1 rfl ?_
              refine v_iadd X dX10_isAt_102 ?_
              refine t_iald (j := 1) X hd rfl dX10_isAt_103 (fun v15 hd => ?_)
              refine v_iload_n X dX10_isAt_104 3 1 rfl rfl ?_
              refine v_iconst (v := 1) X dX10_isAt_105 (by decide) ?_
              refine v_iadd X dX10_isAt_106 ?_
              refine v_icmp_ne (tgt := 112) X dX10_isAt_107 (by decide) (fun q => ?_) (fun q => ?_)
              · have hd := Tite_f q hd
                refine t_iincL (lv2 := fun v16 => [(3, .int v16), (5, .int v12), (4, .int v10), (0, .ref am), (1, .int p1), (2, .int s2)]) X hd dX10_isAt_112 5 rfl (by decide : Int32.ofInt 1 = 1) (by decide) (fun v16 => rfl) (fun v16 hd => ?_)
                refine v_goto (tgt := 19) X dX10_isAt_115 (by decide) ?_
                exact v_loc [3, 4, 5, 0] rfl (Tlp_in (P := fun (s5 : Int32) m => V K 6 (mkM am hn m) 19 [(0, .ref am), (1, .int p1), (2, .int s2), (3, .int s5)] []) hd ih6)
              · have hd := Tite_t q hd
                refine v_iconst (v := 1) X dX10_isAt_110 (by decide) ?_
                have hd := Tlp_out hd ho7
                have hd := Tlp_out hd ho4
                exact t_zret X hK hd rfl ho dX10_isAt_111
          · have hd := Tcnd_f q hd
            refine v_goto (tgt := 112) X dX10_isAt_65 (by decide) ?_
            refine t_iincL (lv2 := fun v17 => [(3, .int v17), (5, .int v12), (4, .int v10), (0, .ref am), (1, .int p1), (2, .int s2)]) X hd dX10_isAt_112 5 rfl (by decide : Int32.ofInt 1 = 1) (by decide) (fun v17 => rfl) (fun v17 hd => ?_)
            refine v_goto (tgt := 19) X dX10_isAt_115 (by decide) ?_
            exact v_loc [3, 4, 5, 0] rfl (Tlp_in (P := fun (s5 : Int32) m => V K 6 (mkM am hn m) 19 [(0, .ref am), (1, .int p1), (2, .int s2), (3, .int s5)] []) hd ih6)
        · have hd := Tite_t q hd
          refine v_iload_n X dX10_isAt_50 4 2 rfl rfl ?_
          refine v_if_eq (tgt := 112) X dX10_isAt_51 (by decide) (fun q => ?_) (fun q => ?_)
          · have hd := Tite_t q hd
            refine t_iincL (lv2 := fun v18 => [(3, .int v18), (5, .int v12), (4, .int v10), (0, .ref am), (1, .int p1), (2, .int s2)]) X hd dX10_isAt_112 5 rfl (by decide : Int32.ofInt 1 = 1) (by decide) (fun v18 => rfl) (fun v18 hd => ?_)
            refine v_goto (tgt := 19) X dX10_isAt_115 (by decide) ?_
            exact v_loc [3, 4, 5, 0] rfl (Tlp_in (P := fun (s5 : Int32) m => V K 6 (mkM am hn m) 19 [(0, .ref am), (1, .int p1), (2, .int s2), (3, .int s5)] []) hd ih6)
          · have hd := Tite_f q hd
            refine v_aload_n X dX10_isAt_54 2 0 rfl rfl ?_
            refine v_iload X dX10_isAt_55 1 rfl ?_
            refine v_iload X dX10_isAt_57 0 rfl ?_
            refine t_callV X hK hd (ct_X10_isCell _ am v10 v12) (lw_V q1974 q1976 qs55 q120 q1977) ⟨rfl, dn_X10_isCell⟩ rfl ⟨by decide, by decide⟩ rfl (Nat.le_of_ble_eq_true rfl) dX10_isAt_59 (fun v19 ms hd => ?_)
            show V K 6 (mkM am hn ms) 62 [(5, .int v12), (4, .int v10), (0, .ref am), (1, .int p1), (2, .int s2), (3, .int s5)] [.int (b2i v19)]
            refine v_ifZ_ne (tgt := 68) X dX10_isAt_62 (by decide) (fun q => ?_) (fun q => ?_)
            · have hd := Tcnd_t q hd
              refine v_aload_n X dX10_isAt_68 2 0 rfl rfl ?_
              refine t_getA (j := 23) X rfl fl_X10_81 dX10_isAt_69 ?_
              refine v_bipush (v := 10) X dX10_isAt_72 (by decide) ?_
              refine v_iload X dX10_isAt_74 0 rfl ?_
              refine v_imul X dX10_isAt_76 ?_
              refine v_iload X dX10_isAt_77 1 rfl ?_
              refine v_iadd X dX10_isAt_79 ?_
              refine t_iald (j := 23) X hd rfl dX10_isAt_80 (fun v20 hd => ?_)
              refine v_iload_n X dX10_isAt_81 3 1 rfl rfl ?_
              refine v_iconst (v := 1) X dX10_isAt_82 (by decide) ?_
              refine v_iadd X dX10_isAt_83 ?_
              refine v_icmp_eq (tgt := 110) X dX10_isAt_84 (by decide) (fun q => ?_) (fun q => ?_)
              · have hd := Tite_t q hd
                refine v_iconst (v := 1) X dX10_isAt_110 (by decide) ?_
                have hd := Tlp_out hd ho7
                have hd := Tlp_out hd ho4
                exact t_zret X hK hd rfl ho dX10_isAt_111
              · have hd := Tite_f q hd
                refine v_aload_n X dX10_isAt_87 2 0 rfl rfl ?_
                refine t_getA (j := 1) X rfl fl_X10_13 dX10_isAt_88 ?_
                refine v_sipush (v := 210) X dX10_isAt_91 (by decide) ?_
                refine v_bipush (v := 10) X dX10_isAt_94 (by decide) ?_
                refine v_iload X dX10_isAt_96 0 rfl ?_
                refine v_imul X dX10_isAt_98 ?_
                refine v_iadd X dX10_isAt_99 ?_
                refine v_iload X dX10_isAt_100 1 rfl ?_
                refine v_iadd X dX10_isAt_102 ?_
                refine t_iald (j := 1) X hd rfl dX10_isAt_103 (fun v21 hd => ?_)
                refine v_iload_n X dX10_isAt_104 3 1 rfl rfl ?_
                refine v_iconst (v := 1) X dX10_isAt_105 (by decide) ?_
                refine v_iadd X dX10_isAt_106 ?_
                refine v_icmp_ne (tgt := 112) X dX10_isAt_107 (by decide) (fun q => ?_) (fun q => ?_)
                · have hd := Tite_f q hd
                  refine t_iincL (lv2 := fun v22 => [(3, .int v22), (5, .int v12), (4, .int v10), (0, .ref am), (1, .int p1), (2, .int s2)]) X hd dX10_isAt_112 5 rfl (by decide : Int32.ofInt 1 = 1) (by decide) (fun v22 => rfl) (fun v22 hd => ?_)
                  refine v_goto (tgt := 19) X dX10_isAt_115 (by decide) ?_
                  exact v_loc [3, 4, 5, 0] rfl (Tlp_in (P := fun (s5 : Int32) m => V K 6 (mkM am hn m) 19 [(0, .ref am), (1, .int p1), (2, .int s2), (3, .int s5)] []) hd ih6)
                · have hd := Tite_t q hd
                  refine v_iconst (v := 1) X dX10_isAt_110 (by decide) ?_
                  have hd := Tlp_out hd ho7
                  have hd := Tlp_out hd ho4
                  exact t_zret X hK hd rfl ho dX10_isAt_111
            · have hd := Tcnd_f q hd
              refine v_goto (tgt := 112) X dX10_isAt_65 (by decide) ?_
              refine t_iincL (lv2 := fun v23 => [(3, .int v23), (5, .int v12), (4, .int v10), (0, .ref am), (1, .int p1), (2, .int s2)]) X hd dX10_isAt_112 5 rfl (by decide : Int32.ofInt 1 = 1) (by decide) (fun v23 => rfl) (fun v23 hd => ?_)
              refine v_goto (tgt := 19) X dX10_isAt_115 (by decide) ?_
              exact v_loc [3, 4, 5, 0] rfl (Tlp_in (P := fun (s5 : Int32) m => V K 6 (mkM am hn m) 19 [(0, .ref am), (1, .int p1), (2, .int s2), (3, .int s5)] []) hd ih6)
  · have hd := Tite_t q hd
    refine v_iconst (v := 0) X dX10_isAt_8 (by decide) ?_
    exact t_zret X hK hd rfl ho dX10_isAt_9
def dkwX10_hinders_4 : List UInt8 := [132, 3, 1, 167, 255, 192, 3, 172]
abbrev dktX10_hinders_4 : List UInt8 := dkwX10_hinders_4 ++ []
def dkwX10_hinders_3 : List UInt8 := [180, 0, 81, 21, 4, 46, 27, 4, 96, 160, 0, 12, 21, 4, 42, 180, 1, 98, 160, 0, 6, 16, 7, 172]
abbrev dktX10_hinders_3 : List UInt8 := dkwX10_hinders_3 ++ dktX10_hinders_4
def dkwX10_hinders_2 : List UInt8 := [46, 104, 42, 180, 0, 39, 29, 46, 96, 54, 4, 42, 180, 0, 81, 21, 4, 46, 153, 0, 16, 42]
abbrev dktX10_hinders_2 : List UInt8 := dkwX10_hinders_2 ++ dktX10_hinders_3
def dkwX10_hinders_1 : List UInt8 := [182, 1, 11, 28, 182, 1, 22, 3, 62, 29, 42, 180, 1, 15, 162, 0, 62, 16, 10, 42, 180, 0, 42, 29]
abbrev dktX10_hinders_1 : List UInt8 := dkwX10_hinders_1 ++ dktX10_hinders_2
def dkwX10_hinders_0 : List UInt8 := [42, 27, 42, 27, 7, 182, 1, 11, 28, 182, 1, 26, 154, 0, 6, 16, 6, 172, 42, 27, 42, 27, 7]
abbrev dktX10_hinders_0 : List UInt8 := dkwX10_hinders_0 ++ dktX10_hinders_1
theorem dksX10_hinders_0 : cX10_hinders.data.toList.drop 0 = dktX10_hinders_0 := by decide +kernel
theorem dksX10_hinders_1 : cX10_hinders.data.toList.drop 23 = dktX10_hinders_1 := dk_seg dksX10_hinders_0 23 rfl rfl
theorem dksX10_hinders_2 : cX10_hinders.data.toList.drop 47 = dktX10_hinders_2 := dk_seg dksX10_hinders_1 24 rfl rfl
theorem dksX10_hinders_3 : cX10_hinders.data.toList.drop 69 = dktX10_hinders_3 := dk_seg dksX10_hinders_2 22 rfl rfl
theorem dksX10_hinders_4 : cX10_hinders.data.toList.drop 93 = dktX10_hinders_4 := dk_seg dksX10_hinders_3 24 rfl rfl
theorem dX10_hinders_0 : decode cX10_hinders 0 = .ok (.aload_n 0, 1) := dk_42 (dk_at dksX10_hinders_0 0 rfl rfl)
theorem dX10_hinders_1 : decode cX10_hinders 1 = .ok (.iload_n 1, 1) := dk_27 (dk_at dksX10_hinders_0 1 rfl rfl)
theorem dX10_hinders_2 : decode cX10_hinders 2 = .ok (.aload_n 0, 1) := dk_42 (dk_at dksX10_hinders_0 2 rfl rfl)
theorem dX10_hinders_3 : decode cX10_hinders 3 = .ok (.iload_n 1, 1) := dk_27 (dk_at dksX10_hinders_0 3 rfl rfl)
theorem dX10_hinders_4 : decode cX10_hinders 4 = .ok (.iconst 4, 1) := dk_7 (dk_at dksX10_hinders_0 4 rfl rfl)
theorem dX10_hinders_5 : decode cX10_hinders 5 = .ok (.invokevirtual 267, 3) := dk_182 1 11 (dk_at dksX10_hinders_0 5 rfl rfl)
theorem dX10_hinders_8 : decode cX10_hinders 8 = .ok (.iload_n 2, 1) := dk_28 (dk_at dksX10_hinders_0 8 rfl rfl)
theorem dX10_hinders_9 : decode cX10_hinders 9 = .ok (.invokevirtual 282, 3) := dk_182 1 26 (dk_at dksX10_hinders_0 9 rfl rfl)
theorem dX10_hinders_12 : decode cX10_hinders 12 = .ok (.ifCond .ne 6, 3) := dk_154 0 6 (dk_at dksX10_hinders_0 12 rfl rfl)
theorem dX10_hinders_15 : decode cX10_hinders 15 = .ok (.bipush 6, 2) := dk_16 6 (dk_at dksX10_hinders_0 15 rfl rfl)
theorem dX10_hinders_17 : decode cX10_hinders 17 = .ok (.ireturn, 1) := dk_172 (dk_at dksX10_hinders_0 17 rfl rfl)
theorem dX10_hinders_18 : decode cX10_hinders 18 = .ok (.aload_n 0, 1) := dk_42 (dk_at dksX10_hinders_0 18 rfl rfl)
theorem dX10_hinders_19 : decode cX10_hinders 19 = .ok (.iload_n 1, 1) := dk_27 (dk_at dksX10_hinders_0 19 rfl rfl)
theorem dX10_hinders_20 : decode cX10_hinders 20 = .ok (.aload_n 0, 1) := dk_42 (dk_at dksX10_hinders_0 20 rfl rfl)
theorem dX10_hinders_21 : decode cX10_hinders 21 = .ok (.iload_n 1, 1) := dk_27 (dk_at dksX10_hinders_0 21 rfl rfl)
theorem dX10_hinders_22 : decode cX10_hinders 22 = .ok (.iconst 4, 1) := dk_7 (dk_at dksX10_hinders_0 22 rfl rfl)
theorem dX10_hinders_23 : decode cX10_hinders 23 = .ok (.invokevirtual 267, 3) := dk_182 1 11 (dk_at dksX10_hinders_1 0 rfl rfl)
theorem dX10_hinders_26 : decode cX10_hinders 26 = .ok (.iload_n 2, 1) := dk_28 (dk_at dksX10_hinders_1 3 rfl rfl)
theorem dX10_hinders_27 : decode cX10_hinders 27 = .ok (.invokevirtual 278, 3) := dk_182 1 22 (dk_at dksX10_hinders_1 4 rfl rfl)
theorem dX10_hinders_30 : decode cX10_hinders 30 = .ok (.iconst 0, 1) := dk_3 (dk_at dksX10_hinders_1 7 rfl rfl)
theorem dX10_hinders_31 : decode cX10_hinders 31 = .ok (.istore_n 3, 1) := dk_62 (dk_at dksX10_hinders_1 8 rfl rfl)
theorem dX10_hinders_32 : decode cX10_hinders 32 = .ok (.iload_n 3, 1) := dk_29 (dk_at dksX10_hinders_1 9 rfl rfl)
theorem dX10_hinders_33 : decode cX10_hinders 33 = .ok (.aload_n 0, 1) := dk_42 (dk_at dksX10_hinders_1 10 rfl rfl)
theorem dX10_hinders_34 : decode cX10_hinders 34 = .ok (.getfield 271, 3) := dk_180 1 15 (dk_at dksX10_hinders_1 11 rfl rfl)
theorem dX10_hinders_37 : decode cX10_hinders 37 = .ok (.if_icmp .ge 62, 3) := dk_162 0 62 (dk_at dksX10_hinders_1 14 rfl rfl)
theorem dX10_hinders_40 : decode cX10_hinders 40 = .ok (.bipush 10, 2) := dk_16 10 (dk_at dksX10_hinders_1 17 rfl rfl)
theorem dX10_hinders_42 : decode cX10_hinders 42 = .ok (.aload_n 0, 1) := dk_42 (dk_at dksX10_hinders_1 19 rfl rfl)
theorem dX10_hinders_43 : decode cX10_hinders 43 = .ok (.getfield 42, 3) := dk_180 0 42 (dk_at dksX10_hinders_1 20 rfl rfl)
theorem dX10_hinders_46 : decode cX10_hinders 46 = .ok (.iload_n 3, 1) := dk_29 (dk_at dksX10_hinders_1 23 rfl rfl)
theorem dX10_hinders_47 : decode cX10_hinders 47 = .ok (.iaload, 1) := dk_46 (dk_at dksX10_hinders_2 0 rfl rfl)
theorem dX10_hinders_48 : decode cX10_hinders 48 = .ok (.imul, 1) := dk_104 (dk_at dksX10_hinders_2 1 rfl rfl)
theorem dX10_hinders_49 : decode cX10_hinders 49 = .ok (.aload_n 0, 1) := dk_42 (dk_at dksX10_hinders_2 2 rfl rfl)
theorem dX10_hinders_50 : decode cX10_hinders 50 = .ok (.getfield 39, 3) := dk_180 0 39 (dk_at dksX10_hinders_2 3 rfl rfl)
theorem dX10_hinders_53 : decode cX10_hinders 53 = .ok (.iload_n 3, 1) := dk_29 (dk_at dksX10_hinders_2 6 rfl rfl)
theorem dX10_hinders_54 : decode cX10_hinders 54 = .ok (.iaload, 1) := dk_46 (dk_at dksX10_hinders_2 7 rfl rfl)
theorem dX10_hinders_55 : decode cX10_hinders 55 = .ok (.iadd, 1) := dk_96 (dk_at dksX10_hinders_2 8 rfl rfl)
theorem dX10_hinders_56 : decode cX10_hinders 56 = .ok (.istore 4, 2) := dk_54 4 (dk_at dksX10_hinders_2 9 rfl rfl)
theorem dX10_hinders_58 : decode cX10_hinders 58 = .ok (.aload_n 0, 1) := dk_42 (dk_at dksX10_hinders_2 11 rfl rfl)
theorem dX10_hinders_59 : decode cX10_hinders 59 = .ok (.getfield 81, 3) := dk_180 0 81 (dk_at dksX10_hinders_2 12 rfl rfl)
theorem dX10_hinders_62 : decode cX10_hinders 62 = .ok (.iload 4, 2) := dk_21 4 (dk_at dksX10_hinders_2 15 rfl rfl)
theorem dX10_hinders_64 : decode cX10_hinders 64 = .ok (.iaload, 1) := dk_46 (dk_at dksX10_hinders_2 17 rfl rfl)
theorem dX10_hinders_65 : decode cX10_hinders 65 = .ok (.ifCond .eq 16, 3) := dk_153 0 16 (dk_at dksX10_hinders_2 18 rfl rfl)
theorem dX10_hinders_68 : decode cX10_hinders 68 = .ok (.aload_n 0, 1) := dk_42 (dk_at dksX10_hinders_2 21 rfl rfl)
theorem dX10_hinders_69 : decode cX10_hinders 69 = .ok (.getfield 81, 3) := dk_180 0 81 (dk_at dksX10_hinders_3 0 rfl rfl)
theorem dX10_hinders_72 : decode cX10_hinders 72 = .ok (.iload 4, 2) := dk_21 4 (dk_at dksX10_hinders_3 3 rfl rfl)
theorem dX10_hinders_74 : decode cX10_hinders 74 = .ok (.iaload, 1) := dk_46 (dk_at dksX10_hinders_3 5 rfl rfl)
theorem dX10_hinders_75 : decode cX10_hinders 75 = .ok (.iload_n 1, 1) := dk_27 (dk_at dksX10_hinders_3 6 rfl rfl)
theorem dX10_hinders_76 : decode cX10_hinders 76 = .ok (.iconst 1, 1) := dk_4 (dk_at dksX10_hinders_3 7 rfl rfl)
theorem dX10_hinders_77 : decode cX10_hinders 77 = .ok (.iadd, 1) := dk_96 (dk_at dksX10_hinders_3 8 rfl rfl)
theorem dX10_hinders_78 : decode cX10_hinders 78 = .ok (.if_icmp .ne 12, 3) := dk_160 0 12 (dk_at dksX10_hinders_3 9 rfl rfl)
theorem dX10_hinders_81 : decode cX10_hinders 81 = .ok (.iload 4, 2) := dk_21 4 (dk_at dksX10_hinders_3 12 rfl rfl)
theorem dX10_hinders_83 : decode cX10_hinders 83 = .ok (.aload_n 0, 1) := dk_42 (dk_at dksX10_hinders_3 14 rfl rfl)
theorem dX10_hinders_84 : decode cX10_hinders 84 = .ok (.getfield 354, 3) := dk_180 1 98 (dk_at dksX10_hinders_3 15 rfl rfl)
theorem dX10_hinders_87 : decode cX10_hinders 87 = .ok (.if_icmp .ne 6, 3) := dk_160 0 6 (dk_at dksX10_hinders_3 18 rfl rfl)
theorem dX10_hinders_90 : decode cX10_hinders 90 = .ok (.bipush 7, 2) := dk_16 7 (dk_at dksX10_hinders_3 21 rfl rfl)
theorem dX10_hinders_92 : decode cX10_hinders 92 = .ok (.ireturn, 1) := dk_172 (dk_at dksX10_hinders_3 23 rfl rfl)
theorem dX10_hinders_93 : decode cX10_hinders 93 = .ok (.iinc 3 1, 3) := dk_132 3 1 (dk_at dksX10_hinders_4 0 rfl rfl)
theorem dX10_hinders_96 : decode cX10_hinders 96 = .ok (.goto (-64), 3) := dk_167 255 192 (dk_at dksX10_hinders_4 3 rfl rfl)
theorem dX10_hinders_99 : decode cX10_hinders 99 = .ok (.iconst 0, 1) := dk_3 (dk_at dksX10_hinders_4 6 rfl rfl)
theorem dX10_hinders_100 : decode cX10_hinders 100 = .ok (.ireturn, 1) := dk_172 (dk_at dksX10_hinders_4 7 rfl rfl)
theorem dn_X10_hinders : yX10_hinders.cls ≠ "java/lang/invoke/MethodHandle" ∧ yX10_hinders.cls ≠ "java/lang/invoke/VarHandle" ∧ (parseMethodDescriptor yX10_hinders.desc).map (fun d => d.parameters.length) = some 2 := by decide +kernel
noncomputable def M_X10_hinders (p1 : Int32) (p2 : Int32) : TM Int32 := TM.bind (M_X10_of p1 4) (fun v1 => TM.bind (M_X10_canBe p1 v1 p2) (fun v2 => cond v2 (TM.bind (M_X10_of p1 4) (fun v3 => TM.bind (M_X10_layLeaf p1 v3 p2) (fun v4 => TM.loop (S := Int32) (fun s5 => TM.bind (tI 26) (fun v8 => if v8 ≤ s5 then TM.pure (Sum.inr 0) else TM.bind (tA 25 4 s5) (fun v9 => TM.bind (tA 24 4 s5) (fun v10 => TM.lv ((10 * v9) + v10) (fun v11 => TM.bind (tA 44 100 v11) (fun v12 => if v12 = 0 then TM.bind (tI 45) (fun v13 => if v11 = v13 then TM.pure (Sum.inr 7) else TM.lv (s5 + 1) (fun v14 => TM.pure (Sum.inl v14))) else TM.bind (tA 44 100 v11) (fun v15 => if v15 = (p1 + 1) then TM.bind (tI 45) (fun v16 => if v11 = v16 then TM.pure (Sum.inr 7) else TM.lv (s5 + 1) (fun v17 => TM.pure (Sum.inl v17))) else TM.pure (Sum.inr 7)))))))) 0))) (TM.pure 6)))
set_option maxHeartbeats 4000000 in
theorem ct_X10_hinders (G : gG) (am : Nat) (p1 : Int32) (p2 : Int32) : gCtM G am yX10_hinders cX10_hinders 5 (some .int) 3 79 [.ref am, .int p1, .int p2] (M_X10_hinders p1 p2) (fun x : Int32 => some (.int x)) := by
  refine gCtM.of (by decide) (Nat.le_of_ble_eq_true rfl) (fun K hn ms ms' r hG X hK hd ho => ?_)
  subst hG
  have X : gX K cX10_hinders 5 "BitingDoorsModel" "hinders" (some .int) 3 79 := X
  show V K 5 (mkM am hn ms) 0 [(0, .ref am), (1, .int p1), (2, .int p2)] []
  unfold M_X10_hinders at hd
  refine v_aload_n X dX10_hinders_0 0 0 rfl rfl ?_
  refine v_iload_n X dX10_hinders_1 1 1 rfl rfl ?_
  refine v_aload_n X dX10_hinders_2 0 0 rfl rfl ?_
  refine v_iload_n X dX10_hinders_3 1 1 rfl rfl ?_
  refine v_iconst (v := 4) X dX10_hinders_4 (by decide) ?_
  refine t_callV X hK hd (ct_X10_of _ am p1 4) (lw_V q1994 q1996 qs59 q120 q1997) ⟨rfl, dn_X10_of⟩ rfl ⟨by decide, by decide⟩ rfl (Nat.le_of_ble_eq_true rfl) dX10_hinders_5 (fun v1 ms hd => ?_)
  show V K 5 (mkM am hn ms) 8 [(0, .ref am), (1, .int p1), (2, .int p2)] [.int v1, .int p1, .ref am]
  refine v_iload_n X dX10_hinders_8 2 2 rfl rfl ?_
  refine t_callV X hK hd (ct_X10_canBe _ am p1 v1 p2) (lw_V q2014 q2016 qs62 q120 q2017) ⟨rfl, dn_X10_canBe⟩ rfl ⟨by decide, by decide⟩ rfl (Nat.le_of_ble_eq_true rfl) dX10_hinders_9 (fun v2 ms hd => ?_)
  show V K 5 (mkM am hn ms) 12 [(0, .ref am), (1, .int p1), (2, .int p2)] [.int (b2i v2)]
  refine v_ifZ_ne (tgt := 18) X dX10_hinders_12 (by decide) (fun q => ?_) (fun q => ?_)
  · have hd := Tcnd_t q hd
    refine v_aload_n X dX10_hinders_18 0 0 rfl rfl ?_
    refine v_iload_n X dX10_hinders_19 1 1 rfl rfl ?_
    refine v_aload_n X dX10_hinders_20 0 0 rfl rfl ?_
    refine v_iload_n X dX10_hinders_21 1 1 rfl rfl ?_
    refine v_iconst (v := 4) X dX10_hinders_22 (by decide) ?_
    refine t_callV X hK hd (ct_X10_of _ am p1 4) (lw_V q1994 q1996 qs59 q120 q1997) ⟨rfl, dn_X10_of⟩ rfl ⟨by decide, by decide⟩ rfl (Nat.le_of_ble_eq_true rfl) dX10_hinders_23 (fun v3 ms hd => ?_)
    show V K 5 (mkM am hn ms) 26 [(0, .ref am), (1, .int p1), (2, .int p2)] [.int v3, .int p1, .ref am]
    refine v_iload_n X dX10_hinders_26 2 2 rfl rfl ?_
    refine t_callV X hK hd (ct_X10_layLeaf _ am p1 v3 p2) (lw_V q2002 q2004 qs60 q120 q2005) ⟨rfl, dn_X10_layLeaf⟩ rfl ⟨by decide, by decide⟩ rfl (Nat.le_of_ble_eq_true rfl) dX10_hinders_27 (fun v4 ms hd => ?_)
    show V K 5 (mkM am hn ms) 30 [(0, .ref am), (1, .int p1), (2, .int p2)] []
    refine v_iconst (v := 0) X dX10_hinders_30 (by decide) ?_
    refine v_istore_n (lv2 := [(3, .int 0), (0, .ref am), (1, .int p1), (2, .int p2)]) X dX10_hinders_31 3 rfl (by decide) rfl ?_
    refine v_loc [1, 2, 0] rfl ?_
    refine Tloop_ind hd (fun (s5 : Int32) m => V K 5 (mkM am hn m) 32 [(0, .ref am), (1, .int p1), (3, .int s5)] []) (fun s5 ms x m2 hd ih6 ho7 => ?_)
    refine v_iload_n X dX10_hinders_32 2 3 rfl rfl ?_
    refine v_aload_n X dX10_hinders_33 0 0 rfl rfl ?_
    refine t_getI X hd rfl fl_X10_271 dX10_hinders_34 (fun v8 hd => ?_)
    refine v_icmp_ge (tgt := 99) X dX10_hinders_37 (by decide) (fun q => ?_) (fun q => ?_)
    · have hd := Tite_t q hd
      refine v_iconst (v := 0) X dX10_hinders_99 (by decide) ?_
      have hd := Tlp_out hd ho7
      exact t_iret X hK hd ho dX10_hinders_100
    · have hd := Tite_f q hd
      refine v_bipush (v := 10) X dX10_hinders_40 (by decide) ?_
      refine v_aload_n X dX10_hinders_42 0 0 rfl rfl ?_
      refine t_getA (j := 10) X rfl fl_X10_42 dX10_hinders_43 ?_
      refine v_iload_n X dX10_hinders_46 2 3 rfl rfl ?_
      refine t_iald (j := 10) X hd rfl dX10_hinders_47 (fun v9 hd => ?_)
      refine v_imul X dX10_hinders_48 ?_
      refine v_aload_n X dX10_hinders_49 0 0 rfl rfl ?_
      refine t_getA (j := 9) X rfl fl_X10_39 dX10_hinders_50 ?_
      refine v_iload_n X dX10_hinders_53 2 3 rfl rfl ?_
      refine t_iald (j := 9) X hd rfl dX10_hinders_54 (fun v10 hd => ?_)
      refine v_iadd X dX10_hinders_55 ?_
      refine t_lvI hd (fun v11 hd => ?_)
      refine v_istore (lv2 := [(4, .int v11), (0, .ref am), (1, .int p1), (3, .int s5)]) X dX10_hinders_56 (by decide) rfl ?_
      refine v_aload_n X dX10_hinders_58 1 0 rfl rfl ?_
      refine t_getA (j := 23) X rfl fl_X10_81 dX10_hinders_59 ?_
      refine v_iload X dX10_hinders_62 0 rfl ?_
      refine t_iald (j := 23) X hd rfl dX10_hinders_64 (fun v12 hd => ?_)
      refine v_if_eq (tgt := 81) X dX10_hinders_65 (by decide) (fun q => ?_) (fun q => ?_)
      · have hd := Tite_t q hd
        refine v_iload X dX10_hinders_81 0 rfl ?_
        refine v_aload_n X dX10_hinders_83 1 0 rfl rfl ?_
        refine t_getI X hd rfl fl_X10_354 dX10_hinders_84 (fun v13 hd => ?_)
        refine v_icmp_ne (tgt := 93) X dX10_hinders_87 (by decide) (fun q => ?_) (fun q => ?_)
        · have hd := Tite_f q hd
          refine t_iincL (lv2 := fun v14 => [(3, .int v14), (4, .int v11), (0, .ref am), (1, .int p1)]) X hd dX10_hinders_93 3 rfl (by decide : Int32.ofInt 1 = 1) (by decide) (fun v14 => rfl) (fun v14 hd => ?_)
          refine v_goto (tgt := 32) X dX10_hinders_96 (by decide) ?_
          exact v_loc [2, 3, 0] rfl (Tlp_in (P := fun (s5 : Int32) m => V K 5 (mkM am hn m) 32 [(0, .ref am), (1, .int p1), (3, .int s5)] []) hd ih6)
        · have hd := Tite_t q hd
          refine v_bipush (v := 7) X dX10_hinders_90 (by decide) ?_
          have hd := Tlp_out hd ho7
          exact t_iret X hK hd ho dX10_hinders_92
      · have hd := Tite_f q hd
        refine v_aload_n X dX10_hinders_68 1 0 rfl rfl ?_
        refine t_getA (j := 23) X rfl fl_X10_81 dX10_hinders_69 ?_
        refine v_iload X dX10_hinders_72 0 rfl ?_
        refine t_iald (j := 23) X hd rfl dX10_hinders_74 (fun v15 hd => ?_)
        refine v_iload_n X dX10_hinders_75 2 1 rfl rfl ?_
        refine v_iconst (v := 1) X dX10_hinders_76 (by decide) ?_
        refine v_iadd X dX10_hinders_77 ?_
        refine v_icmp_ne (tgt := 90) X dX10_hinders_78 (by decide) (fun q => ?_) (fun q => ?_)
        · have hd := Tite_f q hd
          refine v_bipush (v := 7) X dX10_hinders_90 (by decide) ?_
          have hd := Tlp_out hd ho7
          exact t_iret X hK hd ho dX10_hinders_92
        · have hd := Tite_t q hd
          refine v_iload X dX10_hinders_81 0 rfl ?_
          refine v_aload_n X dX10_hinders_83 1 0 rfl rfl ?_
          refine t_getI X hd rfl fl_X10_354 dX10_hinders_84 (fun v16 hd => ?_)
          refine v_icmp_ne (tgt := 93) X dX10_hinders_87 (by decide) (fun q => ?_) (fun q => ?_)
          · have hd := Tite_f q hd
            refine t_iincL (lv2 := fun v17 => [(3, .int v17), (4, .int v11), (0, .ref am), (1, .int p1)]) X hd dX10_hinders_93 3 rfl (by decide : Int32.ofInt 1 = 1) (by decide) (fun v17 => rfl) (fun v17 hd => ?_)
            refine v_goto (tgt := 32) X dX10_hinders_96 (by decide) ?_
            exact v_loc [2, 3, 0] rfl (Tlp_in (P := fun (s5 : Int32) m => V K 5 (mkM am hn m) 32 [(0, .ref am), (1, .int p1), (3, .int s5)] []) hd ih6)
          · have hd := Tite_t q hd
            refine v_bipush (v := 7) X dX10_hinders_90 (by decide) ?_
            have hd := Tlp_out hd ho7
            exact t_iret X hK hd ho dX10_hinders_92
  · have hd := Tcnd_f q hd
    refine v_bipush (v := 6) X dX10_hinders_15 (by decide) ?_
    exact t_iret X hK hd ho dX10_hinders_17
def dkwX10_layLeaves_3 : List UInt8 := [180, 0, 39, 28, 46, 96, 27, 4, 96, 79, 132, 2, 1, 167, 255, 221, 132, 1, 1, 167, 255, 188, 177]
abbrev dktX10_layLeaves_3 : List UInt8 := dkwX10_layLeaves_3 ++ []
def dkwX10_layLeaves_2 : List UInt8 := [3, 61, 28, 42, 180, 1, 15, 162, 0, 33, 42, 180, 0, 81, 16, 10, 42, 180, 0, 42, 28, 46, 104, 42]
abbrev dktX10_layLeaves_2 : List UInt8 := dkwX10_layLeaves_2 ++ dktX10_layLeaves_3
def dkwX10_layLeaves_1 : List UInt8 := [42, 182, 0, 211, 162, 0, 66, 42, 27, 42, 27, 7, 182, 1, 11, 42, 180, 0, 78, 27, 46, 182, 1, 22]
abbrev dktX10_layLeaves_1 : List UInt8 := dkwX10_layLeaves_1 ++ dktX10_layLeaves_2
def dkwX10_layLeaves_0 : List UInt8 := [3, 60, 27, 16, 100, 162, 0, 16, 42, 180, 0, 81, 27, 3, 79, 132, 1, 1, 167, 255, 240, 3, 60, 27]
abbrev dktX10_layLeaves_0 : List UInt8 := dkwX10_layLeaves_0 ++ dktX10_layLeaves_1
theorem dksX10_layLeaves_0 : cX10_layLeaves.data.toList.drop 0 = dktX10_layLeaves_0 := by decide +kernel
theorem dksX10_layLeaves_1 : cX10_layLeaves.data.toList.drop 24 = dktX10_layLeaves_1 := dk_seg dksX10_layLeaves_0 24 rfl rfl
theorem dksX10_layLeaves_2 : cX10_layLeaves.data.toList.drop 48 = dktX10_layLeaves_2 := dk_seg dksX10_layLeaves_1 24 rfl rfl
theorem dksX10_layLeaves_3 : cX10_layLeaves.data.toList.drop 72 = dktX10_layLeaves_3 := dk_seg dksX10_layLeaves_2 24 rfl rfl
theorem dX10_layLeaves_0 : decode cX10_layLeaves 0 = .ok (.iconst 0, 1) := dk_3 (dk_at dksX10_layLeaves_0 0 rfl rfl)
theorem dX10_layLeaves_1 : decode cX10_layLeaves 1 = .ok (.istore_n 1, 1) := dk_60 (dk_at dksX10_layLeaves_0 1 rfl rfl)
theorem dX10_layLeaves_2 : decode cX10_layLeaves 2 = .ok (.iload_n 1, 1) := dk_27 (dk_at dksX10_layLeaves_0 2 rfl rfl)
theorem dX10_layLeaves_3 : decode cX10_layLeaves 3 = .ok (.bipush 100, 2) := dk_16 100 (dk_at dksX10_layLeaves_0 3 rfl rfl)
theorem dX10_layLeaves_5 : decode cX10_layLeaves 5 = .ok (.if_icmp .ge 16, 3) := dk_162 0 16 (dk_at dksX10_layLeaves_0 5 rfl rfl)
theorem dX10_layLeaves_8 : decode cX10_layLeaves 8 = .ok (.aload_n 0, 1) := dk_42 (dk_at dksX10_layLeaves_0 8 rfl rfl)
theorem dX10_layLeaves_9 : decode cX10_layLeaves 9 = .ok (.getfield 81, 3) := dk_180 0 81 (dk_at dksX10_layLeaves_0 9 rfl rfl)
theorem dX10_layLeaves_12 : decode cX10_layLeaves 12 = .ok (.iload_n 1, 1) := dk_27 (dk_at dksX10_layLeaves_0 12 rfl rfl)
theorem dX10_layLeaves_13 : decode cX10_layLeaves 13 = .ok (.iconst 0, 1) := dk_3 (dk_at dksX10_layLeaves_0 13 rfl rfl)
theorem dX10_layLeaves_14 : decode cX10_layLeaves 14 = .ok (.iastore, 1) := dk_79 (dk_at dksX10_layLeaves_0 14 rfl rfl)
theorem dX10_layLeaves_15 : decode cX10_layLeaves 15 = .ok (.iinc 1 1, 3) := dk_132 1 1 (dk_at dksX10_layLeaves_0 15 rfl rfl)
theorem dX10_layLeaves_18 : decode cX10_layLeaves 18 = .ok (.goto (-16), 3) := dk_167 255 240 (dk_at dksX10_layLeaves_0 18 rfl rfl)
theorem dX10_layLeaves_21 : decode cX10_layLeaves 21 = .ok (.iconst 0, 1) := dk_3 (dk_at dksX10_layLeaves_0 21 rfl rfl)
theorem dX10_layLeaves_22 : decode cX10_layLeaves 22 = .ok (.istore_n 1, 1) := dk_60 (dk_at dksX10_layLeaves_0 22 rfl rfl)
theorem dX10_layLeaves_23 : decode cX10_layLeaves 23 = .ok (.iload_n 1, 1) := dk_27 (dk_at dksX10_layLeaves_0 23 rfl rfl)
theorem dX10_layLeaves_24 : decode cX10_layLeaves 24 = .ok (.aload_n 0, 1) := dk_42 (dk_at dksX10_layLeaves_1 0 rfl rfl)
theorem dX10_layLeaves_25 : decode cX10_layLeaves 25 = .ok (.invokevirtual 211, 3) := dk_182 0 211 (dk_at dksX10_layLeaves_1 1 rfl rfl)
theorem dX10_layLeaves_28 : decode cX10_layLeaves 28 = .ok (.if_icmp .ge 66, 3) := dk_162 0 66 (dk_at dksX10_layLeaves_1 4 rfl rfl)
theorem dX10_layLeaves_31 : decode cX10_layLeaves 31 = .ok (.aload_n 0, 1) := dk_42 (dk_at dksX10_layLeaves_1 7 rfl rfl)
theorem dX10_layLeaves_32 : decode cX10_layLeaves 32 = .ok (.iload_n 1, 1) := dk_27 (dk_at dksX10_layLeaves_1 8 rfl rfl)
theorem dX10_layLeaves_33 : decode cX10_layLeaves 33 = .ok (.aload_n 0, 1) := dk_42 (dk_at dksX10_layLeaves_1 9 rfl rfl)
theorem dX10_layLeaves_34 : decode cX10_layLeaves 34 = .ok (.iload_n 1, 1) := dk_27 (dk_at dksX10_layLeaves_1 10 rfl rfl)
theorem dX10_layLeaves_35 : decode cX10_layLeaves 35 = .ok (.iconst 4, 1) := dk_7 (dk_at dksX10_layLeaves_1 11 rfl rfl)
theorem dX10_layLeaves_36 : decode cX10_layLeaves 36 = .ok (.invokevirtual 267, 3) := dk_182 1 11 (dk_at dksX10_layLeaves_1 12 rfl rfl)
theorem dX10_layLeaves_39 : decode cX10_layLeaves 39 = .ok (.aload_n 0, 1) := dk_42 (dk_at dksX10_layLeaves_1 15 rfl rfl)
theorem dX10_layLeaves_40 : decode cX10_layLeaves 40 = .ok (.getfield 78, 3) := dk_180 0 78 (dk_at dksX10_layLeaves_1 16 rfl rfl)
theorem dX10_layLeaves_43 : decode cX10_layLeaves 43 = .ok (.iload_n 1, 1) := dk_27 (dk_at dksX10_layLeaves_1 19 rfl rfl)
theorem dX10_layLeaves_44 : decode cX10_layLeaves 44 = .ok (.iaload, 1) := dk_46 (dk_at dksX10_layLeaves_1 20 rfl rfl)
theorem dX10_layLeaves_45 : decode cX10_layLeaves 45 = .ok (.invokevirtual 278, 3) := dk_182 1 22 (dk_at dksX10_layLeaves_1 21 rfl rfl)
theorem dX10_layLeaves_48 : decode cX10_layLeaves 48 = .ok (.iconst 0, 1) := dk_3 (dk_at dksX10_layLeaves_2 0 rfl rfl)
theorem dX10_layLeaves_49 : decode cX10_layLeaves 49 = .ok (.istore_n 2, 1) := dk_61 (dk_at dksX10_layLeaves_2 1 rfl rfl)
theorem dX10_layLeaves_50 : decode cX10_layLeaves 50 = .ok (.iload_n 2, 1) := dk_28 (dk_at dksX10_layLeaves_2 2 rfl rfl)
theorem dX10_layLeaves_51 : decode cX10_layLeaves 51 = .ok (.aload_n 0, 1) := dk_42 (dk_at dksX10_layLeaves_2 3 rfl rfl)
theorem dX10_layLeaves_52 : decode cX10_layLeaves 52 = .ok (.getfield 271, 3) := dk_180 1 15 (dk_at dksX10_layLeaves_2 4 rfl rfl)
theorem dX10_layLeaves_55 : decode cX10_layLeaves 55 = .ok (.if_icmp .ge 33, 3) := dk_162 0 33 (dk_at dksX10_layLeaves_2 7 rfl rfl)
theorem dX10_layLeaves_58 : decode cX10_layLeaves 58 = .ok (.aload_n 0, 1) := dk_42 (dk_at dksX10_layLeaves_2 10 rfl rfl)
theorem dX10_layLeaves_59 : decode cX10_layLeaves 59 = .ok (.getfield 81, 3) := dk_180 0 81 (dk_at dksX10_layLeaves_2 11 rfl rfl)
theorem dX10_layLeaves_62 : decode cX10_layLeaves 62 = .ok (.bipush 10, 2) := dk_16 10 (dk_at dksX10_layLeaves_2 14 rfl rfl)
theorem dX10_layLeaves_64 : decode cX10_layLeaves 64 = .ok (.aload_n 0, 1) := dk_42 (dk_at dksX10_layLeaves_2 16 rfl rfl)
theorem dX10_layLeaves_65 : decode cX10_layLeaves 65 = .ok (.getfield 42, 3) := dk_180 0 42 (dk_at dksX10_layLeaves_2 17 rfl rfl)
theorem dX10_layLeaves_68 : decode cX10_layLeaves 68 = .ok (.iload_n 2, 1) := dk_28 (dk_at dksX10_layLeaves_2 20 rfl rfl)
theorem dX10_layLeaves_69 : decode cX10_layLeaves 69 = .ok (.iaload, 1) := dk_46 (dk_at dksX10_layLeaves_2 21 rfl rfl)
theorem dX10_layLeaves_70 : decode cX10_layLeaves 70 = .ok (.imul, 1) := dk_104 (dk_at dksX10_layLeaves_2 22 rfl rfl)
theorem dX10_layLeaves_71 : decode cX10_layLeaves 71 = .ok (.aload_n 0, 1) := dk_42 (dk_at dksX10_layLeaves_2 23 rfl rfl)
theorem dX10_layLeaves_72 : decode cX10_layLeaves 72 = .ok (.getfield 39, 3) := dk_180 0 39 (dk_at dksX10_layLeaves_3 0 rfl rfl)
theorem dX10_layLeaves_75 : decode cX10_layLeaves 75 = .ok (.iload_n 2, 1) := dk_28 (dk_at dksX10_layLeaves_3 3 rfl rfl)
theorem dX10_layLeaves_76 : decode cX10_layLeaves 76 = .ok (.iaload, 1) := dk_46 (dk_at dksX10_layLeaves_3 4 rfl rfl)
theorem dX10_layLeaves_77 : decode cX10_layLeaves 77 = .ok (.iadd, 1) := dk_96 (dk_at dksX10_layLeaves_3 5 rfl rfl)
theorem dX10_layLeaves_78 : decode cX10_layLeaves 78 = .ok (.iload_n 1, 1) := dk_27 (dk_at dksX10_layLeaves_3 6 rfl rfl)
theorem dX10_layLeaves_79 : decode cX10_layLeaves 79 = .ok (.iconst 1, 1) := dk_4 (dk_at dksX10_layLeaves_3 7 rfl rfl)
theorem dX10_layLeaves_80 : decode cX10_layLeaves 80 = .ok (.iadd, 1) := dk_96 (dk_at dksX10_layLeaves_3 8 rfl rfl)
theorem dX10_layLeaves_81 : decode cX10_layLeaves 81 = .ok (.iastore, 1) := dk_79 (dk_at dksX10_layLeaves_3 9 rfl rfl)
theorem dX10_layLeaves_82 : decode cX10_layLeaves 82 = .ok (.iinc 2 1, 3) := dk_132 2 1 (dk_at dksX10_layLeaves_3 10 rfl rfl)
theorem dX10_layLeaves_85 : decode cX10_layLeaves 85 = .ok (.goto (-35), 3) := dk_167 255 221 (dk_at dksX10_layLeaves_3 13 rfl rfl)
theorem dX10_layLeaves_88 : decode cX10_layLeaves 88 = .ok (.iinc 1 1, 3) := dk_132 1 1 (dk_at dksX10_layLeaves_3 16 rfl rfl)
theorem dX10_layLeaves_91 : decode cX10_layLeaves 91 = .ok (.goto (-68), 3) := dk_167 255 188 (dk_at dksX10_layLeaves_3 19 rfl rfl)
theorem dX10_layLeaves_94 : decode cX10_layLeaves 94 = .ok (.return_, 1) := dk_177 (dk_at dksX10_layLeaves_3 22 rfl rfl)
theorem fl_X10_78 : gFl "BitingDoorsModel" 78 [8] 43 := by
  intro args s hts hN ci hc
  simp only [List.mem_cons, List.not_mem_nil, or_false] at hc
  subst hc
  exact ⟨RX10, TX10, 64, "BitingDoorsModel", gCl_X10, in_X10, by decide, Or.inl (hts _ q1693), fun _ h => h⟩
theorem dn_X10_layLeaves : yX10_layLeaves.cls ≠ "java/lang/invoke/MethodHandle" ∧ yX10_layLeaves.cls ≠ "java/lang/invoke/VarHandle" ∧ (parseMethodDescriptor yX10_layLeaves.desc).map (fun d => d.parameters.length) = some 0 := by decide +kernel
noncomputable def M_X10_layLeaves  : TM Unit := TM.bind (TM.loop (S := Int32) (E := Unit) (fun s1 => if 100 ≤ s1 then TM.pure (Sum.inr ()) else TM.bind (sA 44 100 s1 0) (fun _ => TM.lv (s1 + 1) (fun v5 => TM.pure (Sum.inl v5)))) 0) (fun e4 => TM.bind (TM.loop (S := Int32) (E := Unit) (fun s6 => TM.bind (M_X10_doors) (fun v10 => if v10 ≤ s6 then TM.pure (Sum.inr ()) else TM.bind (M_X10_of s6 4) (fun v11 => TM.bind (tA 43 10 s6) (fun v12 => TM.bind (M_X10_layLeaf s6 v11 v12) (fun v13 => TM.bind (TM.loop (S := Int32) (E := Unit) (fun s14 => TM.bind (tI 26) (fun v18 => if v18 ≤ s14 then TM.pure (Sum.inr ()) else TM.bind (tA 25 4 s14) (fun v19 => TM.bind (tA 24 4 s14) (fun v20 => TM.bind (sA 44 100 ((10 * v19) + v20) (s6 + 1)) (fun _ => TM.lv (s14 + 1) (fun v21 => TM.pure (Sum.inl v21))))))) 0) (fun e17 => TM.lv (s6 + 1) (fun v22 => TM.pure (Sum.inl v22)))))))) 0) (fun e9 => TM.pure ()))
set_option maxHeartbeats 4000000 in
theorem ct_X10_layLeaves (G : gG) (am : Nat)  : gCtM G am yX10_layLeaves cX10_layLeaves 3 none 2 55 [.ref am] (M_X10_layLeaves) (fun _ : Unit => none) := by
  refine gCtM.of (by decide) (Nat.le_of_ble_eq_true rfl) (fun K hn ms ms' r hG X hK hd ho => ?_)
  subst hG
  have X : gX K cX10_layLeaves 3 "BitingDoorsModel" "layLeaves" none 2 55 := X
  show V K 3 (mkM am hn ms) 0 [(0, .ref am)] []
  unfold M_X10_layLeaves at hd
  refine v_iconst (v := 0) X dX10_layLeaves_0 (by decide) ?_
  refine v_istore_n (lv2 := [(1, .int 0), (0, .ref am)]) X dX10_layLeaves_1 1 rfl (by decide) rfl ?_
  obtain ⟨e4, m1, hd, hd2⟩ := TM.bind_some hd
  have KX : V K 3 (mkM am hn m1) 21 [(0, .ref am)] [] := by
    clear hd
    have hd := hd2
    refine v_iconst (v := 0) X dX10_layLeaves_21 (by decide) ?_
    refine v_istore_n (lv2 := [(1, .int 0), (0, .ref am)]) X dX10_layLeaves_22 1 rfl (by decide) rfl ?_
    obtain ⟨e9, m1, hd, hd2⟩ := TM.bind_some hd
    have KX : V K 3 (mkM am hn m1) 94 [] [] := by
      clear hd
      have hd := hd2
      exact t_vret X hK hd ho dX10_layLeaves_94
    clear hd2
    refine v_loc [1, 0] rfl ?_
    refine Tloop_ind hd (fun (s6 : Int32) m => V K 3 (mkM am hn m) 23 [(0, .ref am), (1, .int s6)] []) (fun s6 ms x m2 hd ih7 ho8 => ?_)
    refine v_iload_n X dX10_layLeaves_23 1 1 rfl rfl ?_
    refine v_aload_n X dX10_layLeaves_24 0 0 rfl rfl ?_
    refine t_callV X hK hd (ct_X10_doors _ am) (lw_V q1986 q1988 qs57 q120 q1989) ⟨rfl, dn_X10_doors⟩ rfl ⟨by decide, by decide⟩ rfl (Nat.le_of_ble_eq_true rfl) dX10_layLeaves_25 (fun v10 ms hd => ?_)
    show V K 3 (mkM am hn ms) 28 [(0, .ref am), (1, .int s6)] [.int v10, .int s6]
    refine v_icmp_ge (tgt := 94) X dX10_layLeaves_28 (by decide) (fun q => ?_) (fun q => ?_)
    · have hd := Tite_t q hd
      exact v_loc [] rfl (t_at (P := fun (e9 : Unit) m => V K 3 (mkM am hn m) 94 [] []) (Tlp_out hd ho8) KX)
    · have hd := Tite_f q hd
      refine v_aload_n X dX10_layLeaves_31 0 0 rfl rfl ?_
      refine v_iload_n X dX10_layLeaves_32 1 1 rfl rfl ?_
      refine v_aload_n X dX10_layLeaves_33 0 0 rfl rfl ?_
      refine v_iload_n X dX10_layLeaves_34 1 1 rfl rfl ?_
      refine v_iconst (v := 4) X dX10_layLeaves_35 (by decide) ?_
      refine t_callV X hK hd (ct_X10_of _ am s6 4) (lw_V q1994 q1996 qs59 q120 q1997) ⟨rfl, dn_X10_of⟩ rfl ⟨by decide, by decide⟩ rfl (Nat.le_of_ble_eq_true rfl) dX10_layLeaves_36 (fun v11 ms hd => ?_)
      show V K 3 (mkM am hn ms) 39 [(0, .ref am), (1, .int s6)] [.int v11, .int s6, .ref am]
      refine v_aload_n X dX10_layLeaves_39 0 0 rfl rfl ?_
      refine t_getA (j := 22) X rfl fl_X10_78 dX10_layLeaves_40 ?_
      refine v_iload_n X dX10_layLeaves_43 1 1 rfl rfl ?_
      refine t_iald (j := 22) X hd rfl dX10_layLeaves_44 (fun v12 hd => ?_)
      refine t_callV X hK hd (ct_X10_layLeaf _ am s6 v11 v12) (lw_V q2002 q2004 qs60 q120 q2005) ⟨rfl, dn_X10_layLeaf⟩ rfl ⟨by decide, by decide⟩ rfl (Nat.le_of_ble_eq_true rfl) dX10_layLeaves_45 (fun v13 ms hd => ?_)
      show V K 3 (mkM am hn ms) 48 [(0, .ref am), (1, .int s6)] []
      refine v_iconst (v := 0) X dX10_layLeaves_48 (by decide) ?_
      refine v_istore_n (lv2 := [(2, .int 0), (0, .ref am), (1, .int s6)]) X dX10_layLeaves_49 2 rfl (by decide) rfl ?_
      obtain ⟨e17, m1, hd, hd2⟩ := TM.bind_some hd
      have KX : V K 3 (mkM am hn m1) 88 [(0, .ref am), (1, .int s6)] [] := by
        clear hd
        have hd := hd2
        refine t_iincL (lv2 := fun v22 => [(1, .int v22), (0, .ref am)]) X hd dX10_layLeaves_88 1 rfl (by decide : Int32.ofInt 1 = 1) (by decide) (fun v22 => rfl) (fun v22 hd => ?_)
        refine v_goto (tgt := 23) X dX10_layLeaves_91 (by decide) ?_
        exact v_loc [1, 0] rfl (Tlp_in (P := fun (s6 : Int32) m => V K 3 (mkM am hn m) 23 [(0, .ref am), (1, .int s6)] []) hd ih7)
      clear hd2
      refine v_loc [1, 2, 0] rfl ?_
      refine Tloop_ind hd (fun (s14 : Int32) m => V K 3 (mkM am hn m) 50 [(0, .ref am), (1, .int s6), (2, .int s14)] []) (fun s14 ms x m2 hd ih15 ho16 => ?_)
      refine v_iload_n X dX10_layLeaves_50 2 2 rfl rfl ?_
      refine v_aload_n X dX10_layLeaves_51 0 0 rfl rfl ?_
      refine t_getI X hd rfl fl_X10_271 dX10_layLeaves_52 (fun v18 hd => ?_)
      refine v_icmp_ge (tgt := 88) X dX10_layLeaves_55 (by decide) (fun q => ?_) (fun q => ?_)
      · have hd := Tite_t q hd
        exact v_loc [0, 1] rfl (t_at (P := fun (e17 : Unit) m => V K 3 (mkM am hn m) 88 [(0, .ref am), (1, .int s6)] []) (Tlp_out hd ho16) KX)
      · have hd := Tite_f q hd
        refine v_aload_n X dX10_layLeaves_58 0 0 rfl rfl ?_
        refine t_getA (j := 23) X rfl fl_X10_81 dX10_layLeaves_59 ?_
        refine v_bipush (v := 10) X dX10_layLeaves_62 (by decide) ?_
        refine v_aload_n X dX10_layLeaves_64 0 0 rfl rfl ?_
        refine t_getA (j := 10) X rfl fl_X10_42 dX10_layLeaves_65 ?_
        refine v_iload_n X dX10_layLeaves_68 2 2 rfl rfl ?_
        refine t_iald (j := 10) X hd rfl dX10_layLeaves_69 (fun v19 hd => ?_)
        refine v_imul X dX10_layLeaves_70 ?_
        refine v_aload_n X dX10_layLeaves_71 0 0 rfl rfl ?_
        refine t_getA (j := 9) X rfl fl_X10_39 dX10_layLeaves_72 ?_
        refine v_iload_n X dX10_layLeaves_75 2 2 rfl rfl ?_
        refine t_iald (j := 9) X hd rfl dX10_layLeaves_76 (fun v20 hd => ?_)
        refine v_iadd X dX10_layLeaves_77 ?_
        refine v_iload_n X dX10_layLeaves_78 1 1 rfl rfl ?_
        refine v_iconst (v := 1) X dX10_layLeaves_79 (by decide) ?_
        refine v_iadd X dX10_layLeaves_80 ?_
        refine t_iast (j := 23) X hd rfl dX10_layLeaves_81 (fun ms hd => ?_)
        refine t_iincL (lv2 := fun v21 => [(2, .int v21), (0, .ref am), (1, .int s6)]) X hd dX10_layLeaves_82 2 rfl (by decide : Int32.ofInt 1 = 1) (by decide) (fun v21 => rfl) (fun v21 hd => ?_)
        refine v_goto (tgt := 50) X dX10_layLeaves_85 (by decide) ?_
        exact v_loc [1, 2, 0] rfl (Tlp_in (P := fun (s14 : Int32) m => V K 3 (mkM am hn m) 50 [(0, .ref am), (1, .int s6), (2, .int s14)] []) hd ih15)
  clear hd2
  refine v_loc [1, 0] rfl ?_
  refine Tloop_ind hd (fun (s1 : Int32) m => V K 3 (mkM am hn m) 2 [(0, .ref am), (1, .int s1)] []) (fun s1 ms x m2 hd ih2 ho3 => ?_)
  refine v_iload_n X dX10_layLeaves_2 1 1 rfl rfl ?_
  refine v_bipush (v := 100) X dX10_layLeaves_3 (by decide) ?_
  refine v_icmp_ge (tgt := 21) X dX10_layLeaves_5 (by decide) (fun q => ?_) (fun q => ?_)
  · have hd := Tite_t q hd
    exact v_loc [0] rfl (t_at (P := fun (e4 : Unit) m => V K 3 (mkM am hn m) 21 [(0, .ref am)] []) (Tlp_out hd ho3) KX)
  · have hd := Tite_f q hd
    refine v_aload_n X dX10_layLeaves_8 0 0 rfl rfl ?_
    refine t_getA (j := 23) X rfl fl_X10_81 dX10_layLeaves_9 ?_
    refine v_iload_n X dX10_layLeaves_12 1 1 rfl rfl ?_
    refine v_iconst (v := 0) X dX10_layLeaves_13 (by decide) ?_
    refine t_iast (j := 23) X hd rfl dX10_layLeaves_14 (fun ms hd => ?_)
    refine t_iincL (lv2 := fun v5 => [(1, .int v5), (0, .ref am)]) X hd dX10_layLeaves_15 1 rfl (by decide : Int32.ofInt 1 = 1) (by decide) (fun v5 => rfl) (fun v5 hd => ?_)
    refine v_goto (tgt := 2) X dX10_layLeaves_18 (by decide) ?_
    exact v_loc [1, 0] rfl (Tlp_in (P := fun (s1 : Int32) m => V K 3 (mkM am hn m) 2 [(0, .ref am), (1, .int s1)] []) hd ih2)
def dkwX10_swing_0 : List UInt8 := [42, 180, 0, 78, 27, 28, 79, 42, 182, 1, 104, 177]
abbrev dktX10_swing_0 : List UInt8 := dkwX10_swing_0 ++ []
theorem dksX10_swing_0 : cX10_swing.data.toList.drop 0 = dktX10_swing_0 := by decide +kernel
theorem dX10_swing_0 : decode cX10_swing 0 = .ok (.aload_n 0, 1) := dk_42 (dk_at dksX10_swing_0 0 rfl rfl)
theorem dX10_swing_1 : decode cX10_swing 1 = .ok (.getfield 78, 3) := dk_180 0 78 (dk_at dksX10_swing_0 1 rfl rfl)
theorem dX10_swing_4 : decode cX10_swing 4 = .ok (.iload_n 1, 1) := dk_27 (dk_at dksX10_swing_0 4 rfl rfl)
theorem dX10_swing_5 : decode cX10_swing 5 = .ok (.iload_n 2, 1) := dk_28 (dk_at dksX10_swing_0 5 rfl rfl)
theorem dX10_swing_6 : decode cX10_swing 6 = .ok (.iastore, 1) := dk_79 (dk_at dksX10_swing_0 6 rfl rfl)
theorem dX10_swing_7 : decode cX10_swing 7 = .ok (.aload_n 0, 1) := dk_42 (dk_at dksX10_swing_0 7 rfl rfl)
theorem dX10_swing_8 : decode cX10_swing 8 = .ok (.invokevirtual 360, 3) := dk_182 1 104 (dk_at dksX10_swing_0 8 rfl rfl)
theorem dX10_swing_11 : decode cX10_swing 11 = .ok (.return_, 1) := dk_177 (dk_at dksX10_swing_0 11 rfl rfl)
theorem dn_X10_swing : yX10_swing.cls ≠ "java/lang/invoke/MethodHandle" ∧ yX10_swing.cls ≠ "java/lang/invoke/VarHandle" ∧ (parseMethodDescriptor yX10_swing.desc).map (fun d => d.parameters.length) = some 2 := by decide +kernel
noncomputable def M_X10_swing (p1 : Int32) (p2 : Int32) : TM Unit := TM.bind (sA 43 10 p1 p2) (fun _ => TM.bind (M_X10_layLeaves) (fun v1 => TM.pure ()))
set_option maxHeartbeats 4000000 in
theorem ct_X10_swing (G : gG) (am : Nat) (p1 : Int32) (p2 : Int32) : gCtM G am yX10_swing cX10_swing 3 none 3 77 [.ref am, .int p1, .int p2] (M_X10_swing p1 p2) (fun _ : Unit => none) := by
  refine gCtM.of (by decide) (Nat.le_of_ble_eq_true rfl) (fun K hn ms ms' r hG X hK hd ho => ?_)
  subst hG
  have X : gX K cX10_swing 3 "BitingDoorsModel" "swing" none 3 77 := X
  show V K 3 (mkM am hn ms) 0 [(0, .ref am), (1, .int p1), (2, .int p2)] []
  unfold M_X10_swing at hd
  refine v_aload_n X dX10_swing_0 0 0 rfl rfl ?_
  refine t_getA (j := 22) X rfl fl_X10_78 dX10_swing_1 ?_
  refine v_iload_n X dX10_swing_4 1 1 rfl rfl ?_
  refine v_iload_n X dX10_swing_5 2 2 rfl rfl ?_
  refine t_iast (j := 22) X hd rfl dX10_swing_6 (fun ms hd => ?_)
  refine v_aload_n X dX10_swing_7 0 0 rfl rfl ?_
  refine t_callV X hK hd (ct_X10_layLeaves _ am) (lw_V q2148 q2150 qs78 q120 q2151) ⟨rfl, dn_X10_layLeaves⟩ rfl ⟨by decide, by decide⟩ rfl (Nat.le_of_ble_eq_true rfl) dX10_swing_8 (fun v1 ms hd => ?_)
  show V K 3 (mkM am hn ms) 11 [(0, .ref am), (1, .int p1), (2, .int p2)] []
  exact t_vret X hK hd ho dX10_swing_11
def dkwX10_blows_6 : List UInt8 := [181, 1, 101, 27, 172]
abbrev dktX10_blows_6 : List UInt8 := dkwX10_blows_6 ++ []
def dkwX10_blows_5 : List UInt8 := [21, 5, 46, 4, 100, 182, 1, 116, 132, 1, 1, 132, 2, 1, 167, 255, 130, 42, 89, 180, 1, 101, 27, 96]
abbrev dktX10_blows_5 : List UInt8 := dkwX10_blows_5 ++ dktX10_blows_6
def dkwX10_blows_4 : List UInt8 := [180, 0, 78, 21, 5, 46, 4, 100, 182, 1, 113, 153, 0, 6, 167, 0, 21, 42, 21, 5, 42, 180, 0, 78]
abbrev dktX10_blows_4 : List UInt8 := dkwX10_blows_4 ++ dktX10_blows_5
def dkwX10_blows_3 : List UInt8 := [180, 0, 78, 21, 4, 46, 153, 0, 52, 42, 180, 0, 78, 21, 5, 46, 153, 0, 42, 42, 21, 5, 42]
abbrev dktX10_blows_3 : List UInt8 := dkwX10_blows_3 ++ dktX10_blows_4
def dkwX10_blows_2 : List UInt8 := [17, 1, 54, 6, 28, 104, 96, 5, 96, 46, 54, 5, 42, 180, 0, 78, 29, 46, 153, 0, 62, 42]
abbrev dktX10_blows_2 : List UInt8 := dkwX10_blows_2 ++ dktX10_blows_3
def dkwX10_blows_1 : List UInt8 := [96, 46, 62, 42, 180, 0, 13, 17, 1, 54, 6, 28, 104, 96, 4, 96, 46, 54, 4, 42, 180, 0, 13]
abbrev dktX10_blows_1 : List UInt8 := dkwX10_blows_1 ++ dktX10_blows_2
def dkwX10_blows_0 : List UInt8 := [3, 60, 3, 61, 28, 42, 180, 0, 13, 6, 46, 162, 0, 122, 42, 180, 0, 13, 17, 1, 54, 6, 28, 104]
abbrev dktX10_blows_0 : List UInt8 := dkwX10_blows_0 ++ dktX10_blows_1
theorem dksX10_blows_0 : cX10_blows.data.toList.drop 0 = dktX10_blows_0 := by decide +kernel
theorem dksX10_blows_1 : cX10_blows.data.toList.drop 24 = dktX10_blows_1 := dk_seg dksX10_blows_0 24 rfl rfl
theorem dksX10_blows_2 : cX10_blows.data.toList.drop 47 = dktX10_blows_2 := dk_seg dksX10_blows_1 23 rfl rfl
theorem dksX10_blows_3 : cX10_blows.data.toList.drop 69 = dktX10_blows_3 := dk_seg dksX10_blows_2 22 rfl rfl
theorem dksX10_blows_4 : cX10_blows.data.toList.drop 92 = dktX10_blows_4 := dk_seg dksX10_blows_3 23 rfl rfl
theorem dksX10_blows_5 : cX10_blows.data.toList.drop 116 = dktX10_blows_5 := dk_seg dksX10_blows_4 24 rfl rfl
theorem dksX10_blows_6 : cX10_blows.data.toList.drop 140 = dktX10_blows_6 := dk_seg dksX10_blows_5 24 rfl rfl
theorem dX10_blows_0 : decode cX10_blows 0 = .ok (.iconst 0, 1) := dk_3 (dk_at dksX10_blows_0 0 rfl rfl)
theorem dX10_blows_1 : decode cX10_blows 1 = .ok (.istore_n 1, 1) := dk_60 (dk_at dksX10_blows_0 1 rfl rfl)
theorem dX10_blows_2 : decode cX10_blows 2 = .ok (.iconst 0, 1) := dk_3 (dk_at dksX10_blows_0 2 rfl rfl)
theorem dX10_blows_3 : decode cX10_blows 3 = .ok (.istore_n 2, 1) := dk_61 (dk_at dksX10_blows_0 3 rfl rfl)
theorem dX10_blows_4 : decode cX10_blows 4 = .ok (.iload_n 2, 1) := dk_28 (dk_at dksX10_blows_0 4 rfl rfl)
theorem dX10_blows_5 : decode cX10_blows 5 = .ok (.aload_n 0, 1) := dk_42 (dk_at dksX10_blows_0 5 rfl rfl)
theorem dX10_blows_6 : decode cX10_blows 6 = .ok (.getfield 13, 3) := dk_180 0 13 (dk_at dksX10_blows_0 6 rfl rfl)
theorem dX10_blows_9 : decode cX10_blows 9 = .ok (.iconst 3, 1) := dk_6 (dk_at dksX10_blows_0 9 rfl rfl)
theorem dX10_blows_10 : decode cX10_blows 10 = .ok (.iaload, 1) := dk_46 (dk_at dksX10_blows_0 10 rfl rfl)
theorem dX10_blows_11 : decode cX10_blows 11 = .ok (.if_icmp .ge 122, 3) := dk_162 0 122 (dk_at dksX10_blows_0 11 rfl rfl)
theorem dX10_blows_14 : decode cX10_blows 14 = .ok (.aload_n 0, 1) := dk_42 (dk_at dksX10_blows_0 14 rfl rfl)
theorem dX10_blows_15 : decode cX10_blows 15 = .ok (.getfield 13, 3) := dk_180 0 13 (dk_at dksX10_blows_0 15 rfl rfl)
theorem dX10_blows_18 : decode cX10_blows 18 = .ok (.sipush 310, 3) := dk_17 1 54 (dk_at dksX10_blows_0 18 rfl rfl)
theorem dX10_blows_21 : decode cX10_blows 21 = .ok (.iconst 3, 1) := dk_6 (dk_at dksX10_blows_0 21 rfl rfl)
theorem dX10_blows_22 : decode cX10_blows 22 = .ok (.iload_n 2, 1) := dk_28 (dk_at dksX10_blows_0 22 rfl rfl)
theorem dX10_blows_23 : decode cX10_blows 23 = .ok (.imul, 1) := dk_104 (dk_at dksX10_blows_0 23 rfl rfl)
theorem dX10_blows_24 : decode cX10_blows 24 = .ok (.iadd, 1) := dk_96 (dk_at dksX10_blows_1 0 rfl rfl)
theorem dX10_blows_25 : decode cX10_blows 25 = .ok (.iaload, 1) := dk_46 (dk_at dksX10_blows_1 1 rfl rfl)
theorem dX10_blows_26 : decode cX10_blows 26 = .ok (.istore_n 3, 1) := dk_62 (dk_at dksX10_blows_1 2 rfl rfl)
theorem dX10_blows_27 : decode cX10_blows 27 = .ok (.aload_n 0, 1) := dk_42 (dk_at dksX10_blows_1 3 rfl rfl)
theorem dX10_blows_28 : decode cX10_blows 28 = .ok (.getfield 13, 3) := dk_180 0 13 (dk_at dksX10_blows_1 4 rfl rfl)
theorem dX10_blows_31 : decode cX10_blows 31 = .ok (.sipush 310, 3) := dk_17 1 54 (dk_at dksX10_blows_1 7 rfl rfl)
theorem dX10_blows_34 : decode cX10_blows 34 = .ok (.iconst 3, 1) := dk_6 (dk_at dksX10_blows_1 10 rfl rfl)
theorem dX10_blows_35 : decode cX10_blows 35 = .ok (.iload_n 2, 1) := dk_28 (dk_at dksX10_blows_1 11 rfl rfl)
theorem dX10_blows_36 : decode cX10_blows 36 = .ok (.imul, 1) := dk_104 (dk_at dksX10_blows_1 12 rfl rfl)
theorem dX10_blows_37 : decode cX10_blows 37 = .ok (.iadd, 1) := dk_96 (dk_at dksX10_blows_1 13 rfl rfl)
theorem dX10_blows_38 : decode cX10_blows 38 = .ok (.iconst 1, 1) := dk_4 (dk_at dksX10_blows_1 14 rfl rfl)
theorem dX10_blows_39 : decode cX10_blows 39 = .ok (.iadd, 1) := dk_96 (dk_at dksX10_blows_1 15 rfl rfl)
theorem dX10_blows_40 : decode cX10_blows 40 = .ok (.iaload, 1) := dk_46 (dk_at dksX10_blows_1 16 rfl rfl)
theorem dX10_blows_41 : decode cX10_blows 41 = .ok (.istore 4, 2) := dk_54 4 (dk_at dksX10_blows_1 17 rfl rfl)
theorem dX10_blows_43 : decode cX10_blows 43 = .ok (.aload_n 0, 1) := dk_42 (dk_at dksX10_blows_1 19 rfl rfl)
theorem dX10_blows_44 : decode cX10_blows 44 = .ok (.getfield 13, 3) := dk_180 0 13 (dk_at dksX10_blows_1 20 rfl rfl)
theorem dX10_blows_47 : decode cX10_blows 47 = .ok (.sipush 310, 3) := dk_17 1 54 (dk_at dksX10_blows_2 0 rfl rfl)
theorem dX10_blows_50 : decode cX10_blows 50 = .ok (.iconst 3, 1) := dk_6 (dk_at dksX10_blows_2 3 rfl rfl)
theorem dX10_blows_51 : decode cX10_blows 51 = .ok (.iload_n 2, 1) := dk_28 (dk_at dksX10_blows_2 4 rfl rfl)
theorem dX10_blows_52 : decode cX10_blows 52 = .ok (.imul, 1) := dk_104 (dk_at dksX10_blows_2 5 rfl rfl)
theorem dX10_blows_53 : decode cX10_blows 53 = .ok (.iadd, 1) := dk_96 (dk_at dksX10_blows_2 6 rfl rfl)
theorem dX10_blows_54 : decode cX10_blows 54 = .ok (.iconst 2, 1) := dk_5 (dk_at dksX10_blows_2 7 rfl rfl)
theorem dX10_blows_55 : decode cX10_blows 55 = .ok (.iadd, 1) := dk_96 (dk_at dksX10_blows_2 8 rfl rfl)
theorem dX10_blows_56 : decode cX10_blows 56 = .ok (.iaload, 1) := dk_46 (dk_at dksX10_blows_2 9 rfl rfl)
theorem dX10_blows_57 : decode cX10_blows 57 = .ok (.istore 5, 2) := dk_54 5 (dk_at dksX10_blows_2 10 rfl rfl)
theorem dX10_blows_59 : decode cX10_blows 59 = .ok (.aload_n 0, 1) := dk_42 (dk_at dksX10_blows_2 12 rfl rfl)
theorem dX10_blows_60 : decode cX10_blows 60 = .ok (.getfield 78, 3) := dk_180 0 78 (dk_at dksX10_blows_2 13 rfl rfl)
theorem dX10_blows_63 : decode cX10_blows 63 = .ok (.iload_n 3, 1) := dk_29 (dk_at dksX10_blows_2 16 rfl rfl)
theorem dX10_blows_64 : decode cX10_blows 64 = .ok (.iaload, 1) := dk_46 (dk_at dksX10_blows_2 17 rfl rfl)
theorem dX10_blows_65 : decode cX10_blows 65 = .ok (.ifCond .eq 62, 3) := dk_153 0 62 (dk_at dksX10_blows_2 18 rfl rfl)
theorem dX10_blows_68 : decode cX10_blows 68 = .ok (.aload_n 0, 1) := dk_42 (dk_at dksX10_blows_2 21 rfl rfl)
theorem dX10_blows_69 : decode cX10_blows 69 = .ok (.getfield 78, 3) := dk_180 0 78 (dk_at dksX10_blows_3 0 rfl rfl)
theorem dX10_blows_72 : decode cX10_blows 72 = .ok (.iload 4, 2) := dk_21 4 (dk_at dksX10_blows_3 3 rfl rfl)
theorem dX10_blows_74 : decode cX10_blows 74 = .ok (.iaload, 1) := dk_46 (dk_at dksX10_blows_3 5 rfl rfl)
theorem dX10_blows_75 : decode cX10_blows 75 = .ok (.ifCond .eq 52, 3) := dk_153 0 52 (dk_at dksX10_blows_3 6 rfl rfl)
theorem dX10_blows_78 : decode cX10_blows 78 = .ok (.aload_n 0, 1) := dk_42 (dk_at dksX10_blows_3 9 rfl rfl)
theorem dX10_blows_79 : decode cX10_blows 79 = .ok (.getfield 78, 3) := dk_180 0 78 (dk_at dksX10_blows_3 10 rfl rfl)
theorem dX10_blows_82 : decode cX10_blows 82 = .ok (.iload 5, 2) := dk_21 5 (dk_at dksX10_blows_3 13 rfl rfl)
theorem dX10_blows_84 : decode cX10_blows 84 = .ok (.iaload, 1) := dk_46 (dk_at dksX10_blows_3 15 rfl rfl)
theorem dX10_blows_85 : decode cX10_blows 85 = .ok (.ifCond .eq 42, 3) := dk_153 0 42 (dk_at dksX10_blows_3 16 rfl rfl)
theorem dX10_blows_88 : decode cX10_blows 88 = .ok (.aload_n 0, 1) := dk_42 (dk_at dksX10_blows_3 19 rfl rfl)
theorem dX10_blows_89 : decode cX10_blows 89 = .ok (.iload 5, 2) := dk_21 5 (dk_at dksX10_blows_3 20 rfl rfl)
theorem dX10_blows_91 : decode cX10_blows 91 = .ok (.aload_n 0, 1) := dk_42 (dk_at dksX10_blows_3 22 rfl rfl)
theorem dX10_blows_92 : decode cX10_blows 92 = .ok (.getfield 78, 3) := dk_180 0 78 (dk_at dksX10_blows_4 0 rfl rfl)
theorem dX10_blows_95 : decode cX10_blows 95 = .ok (.iload 5, 2) := dk_21 5 (dk_at dksX10_blows_4 3 rfl rfl)
theorem dX10_blows_97 : decode cX10_blows 97 = .ok (.iaload, 1) := dk_46 (dk_at dksX10_blows_4 5 rfl rfl)
theorem dX10_blows_98 : decode cX10_blows 98 = .ok (.iconst 1, 1) := dk_4 (dk_at dksX10_blows_4 6 rfl rfl)
theorem dX10_blows_99 : decode cX10_blows 99 = .ok (.isub, 1) := dk_100 (dk_at dksX10_blows_4 7 rfl rfl)
theorem dX10_blows_100 : decode cX10_blows 100 = .ok (.invokevirtual 369, 3) := dk_182 1 113 (dk_at dksX10_blows_4 8 rfl rfl)
theorem dX10_blows_103 : decode cX10_blows 103 = .ok (.ifCond .eq 6, 3) := dk_153 0 6 (dk_at dksX10_blows_4 11 rfl rfl)
theorem dX10_blows_106 : decode cX10_blows 106 = .ok (.goto 21, 3) := dk_167 0 21 (dk_at dksX10_blows_4 14 rfl rfl)
theorem dX10_blows_109 : decode cX10_blows 109 = .ok (.aload_n 0, 1) := dk_42 (dk_at dksX10_blows_4 17 rfl rfl)
theorem dX10_blows_110 : decode cX10_blows 110 = .ok (.iload 5, 2) := dk_21 5 (dk_at dksX10_blows_4 18 rfl rfl)
theorem dX10_blows_112 : decode cX10_blows 112 = .ok (.aload_n 0, 1) := dk_42 (dk_at dksX10_blows_4 20 rfl rfl)
theorem dX10_blows_113 : decode cX10_blows 113 = .ok (.getfield 78, 3) := dk_180 0 78 (dk_at dksX10_blows_4 21 rfl rfl)
theorem dX10_blows_116 : decode cX10_blows 116 = .ok (.iload 5, 2) := dk_21 5 (dk_at dksX10_blows_5 0 rfl rfl)
theorem dX10_blows_118 : decode cX10_blows 118 = .ok (.iaload, 1) := dk_46 (dk_at dksX10_blows_5 2 rfl rfl)
theorem dX10_blows_119 : decode cX10_blows 119 = .ok (.iconst 1, 1) := dk_4 (dk_at dksX10_blows_5 3 rfl rfl)
theorem dX10_blows_120 : decode cX10_blows 120 = .ok (.isub, 1) := dk_100 (dk_at dksX10_blows_5 4 rfl rfl)
theorem dX10_blows_121 : decode cX10_blows 121 = .ok (.invokevirtual 372, 3) := dk_182 1 116 (dk_at dksX10_blows_5 5 rfl rfl)
theorem dX10_blows_124 : decode cX10_blows 124 = .ok (.iinc 1 1, 3) := dk_132 1 1 (dk_at dksX10_blows_5 8 rfl rfl)
theorem dX10_blows_127 : decode cX10_blows 127 = .ok (.iinc 2 1, 3) := dk_132 2 1 (dk_at dksX10_blows_5 11 rfl rfl)
theorem dX10_blows_130 : decode cX10_blows 130 = .ok (.goto (-126), 3) := dk_167 255 130 (dk_at dksX10_blows_5 14 rfl rfl)
theorem dX10_blows_133 : decode cX10_blows 133 = .ok (.aload_n 0, 1) := dk_42 (dk_at dksX10_blows_5 17 rfl rfl)
theorem dX10_blows_134 : decode cX10_blows 134 = .ok (.dup, 1) := dk_89 (dk_at dksX10_blows_5 18 rfl rfl)
theorem dX10_blows_135 : decode cX10_blows 135 = .ok (.getfield 357, 3) := dk_180 1 101 (dk_at dksX10_blows_5 19 rfl rfl)
theorem dX10_blows_138 : decode cX10_blows 138 = .ok (.iload_n 1, 1) := dk_27 (dk_at dksX10_blows_5 22 rfl rfl)
theorem dX10_blows_139 : decode cX10_blows 139 = .ok (.iadd, 1) := dk_96 (dk_at dksX10_blows_5 23 rfl rfl)
theorem dX10_blows_140 : decode cX10_blows 140 = .ok (.putfield 357, 3) := dk_181 1 101 (dk_at dksX10_blows_6 0 rfl rfl)
theorem dX10_blows_143 : decode cX10_blows 143 = .ok (.iload_n 1, 1) := dk_27 (dk_at dksX10_blows_6 3 rfl rfl)
theorem dX10_blows_144 : decode cX10_blows 144 = .ok (.ireturn, 1) := dk_172 (dk_at dksX10_blows_6 4 rfl rfl)
theorem fl_X10_357 : gFl "BitingDoorsModel" 357 [8] 46 := by
  intro args s hts hN ci hc
  simp only [List.mem_cons, List.not_mem_nil, or_false] at hc
  subst hc
  exact ⟨RX10, TX10, 64, "BitingDoorsModel", gCl_X10, in_X10, by decide, Or.inl (hts _ q1696), fun _ h => h⟩
theorem fp_X10_357 {nm : String} : gFp "BitingDoorsModel" nm 357 [8] 46 .int := by
  intro args s hts hN ci hc
  simp only [List.mem_cons, List.not_mem_nil, or_false] at hc
  subst hc
  exact ⟨RX10, TX10, 64, "BitingDoorsModel", gCl_X10, in_X10, by decide, Or.inl ⟨rfl, Or.inl (hts _ q1696)⟩, fun _ h => h, rfl, fun D tys hK => gap_X10 hts hK⟩
theorem dn_X10_blows : yX10_blows.cls ≠ "java/lang/invoke/MethodHandle" ∧ yX10_blows.cls ≠ "java/lang/invoke/VarHandle" ∧ (parseMethodDescriptor yX10_blows.desc).map (fun d => d.parameters.length) = some 0 := by decide +kernel
noncomputable def M_X10_blows  : TM Int32 := TM.bind (TM.loop (S := Int32 × Int32) (E := Int32) (fun s1 => TM.bind (tA 14 704 3) (fun v5 => if v5 ≤ s1.2 then TM.pure (Sum.inr s1.1) else TM.bind (tA 14 704 (310 + (3 * s1.2))) (fun v6 => TM.bind (tA 14 704 ((310 + (3 * s1.2)) + 1)) (fun v7 => TM.bind (tA 14 704 ((310 + (3 * s1.2)) + 2)) (fun v8 => TM.bind (tA 43 10 v6) (fun v9 => TM.bind ((if v9 = 0 then TM.pure s1.1 else TM.bind (tA 43 10 v7) (fun v12 => if v12 = 0 then TM.pure s1.1 else TM.bind (tA 43 10 v8) (fun v13 => if v13 = 0 then TM.pure s1.1 else TM.bind (tA 43 10 v8) (fun v14 => TM.bind (M_X10_hinders v8 (v14 - 1)) (fun v15 => if v15 = 0 then TM.bind (tA 43 10 v8) (fun v16 => TM.bind (M_X10_swing v8 (v16 - 1)) (fun v17 => TM.lv (s1.1 + 1) (fun v18 => TM.pure v18))) else TM.pure s1.1)))) : TM (Int32))) (fun u10 => TM.lv (s1.2 + 1) (fun v11 => TM.pure (Sum.inl (u10, v11)))))))))) (0, 0)) (fun e4 => TM.bind (tI 46) (fun v19 => TM.bind (sI 46 (v19 + e4)) (fun _ => TM.pure e4)))
set_option maxHeartbeats 4000000 in
theorem ct_X10_blows (G : gG) (am : Nat)  : gCtM G am yX10_blows cX10_blows 6 (some .int) 4 103 [.ref am] (M_X10_blows) (fun x : Int32 => some (.int x)) := by
  refine gCtM.of (by decide) (Nat.le_of_ble_eq_true rfl) (fun K hn ms ms' r hG X hK hd ho => ?_)
  subst hG
  have X : gX K cX10_blows 6 "BitingDoorsModel" "blows" (some .int) 4 103 := X
  show V K 6 (mkM am hn ms) 0 [(0, .ref am)] []
  unfold M_X10_blows at hd
  refine v_iconst (v := 0) X dX10_blows_0 (by decide) ?_
  refine v_istore_n (lv2 := [(1, .int 0), (0, .ref am)]) X dX10_blows_1 1 rfl (by decide) rfl ?_
  refine v_iconst (v := 0) X dX10_blows_2 (by decide) ?_
  refine v_istore_n (lv2 := [(2, .int 0), (1, .int 0), (0, .ref am)]) X dX10_blows_3 2 rfl (by decide) rfl ?_
  obtain ⟨e4, m1, hd, hd2⟩ := TM.bind_some hd
  have KX : V K 6 (mkM am hn m1) 133 [(0, .ref am), (1, .int e4)] [] := by
    clear hd
    have hd := hd2
    refine v_aload_n X dX10_blows_133 0 0 rfl rfl ?_
    refine v_dup X dX10_blows_134 rfl ?_
    refine t_getI X hd rfl fl_X10_357 dX10_blows_135 (fun v19 hd => ?_)
    refine v_iload_n X dX10_blows_138 1 1 rfl rfl ?_
    refine v_iadd X dX10_blows_139 ?_
    refine t_putI X hd rfl fp_X10_357 dX10_blows_140 (fun ms hd => ?_)
    refine v_iload_n X dX10_blows_143 1 1 rfl rfl ?_
    exact t_iret X hK hd ho dX10_blows_144
  clear hd2
  refine v_loc [2, 1, 0] rfl ?_
  refine Tloop_ind hd (fun (s1 : Int32 × Int32) m => V K 6 (mkM am hn m) 4 [(0, .ref am), (1, .int s1.1), (2, .int s1.2)] []) (fun s1 ms x m2 hd ih2 ho3 => ?_)
  refine v_iload_n X dX10_blows_4 2 2 rfl rfl ?_
  refine v_aload_n X dX10_blows_5 0 0 rfl rfl ?_
  refine t_getA (j := 1) X rfl fl_X10_13 dX10_blows_6 ?_
  refine v_iconst (v := 3) X dX10_blows_9 (by decide) ?_
  refine t_iald (j := 1) X hd rfl dX10_blows_10 (fun v5 hd => ?_)
  refine v_icmp_ge (tgt := 133) X dX10_blows_11 (by decide) (fun q => ?_) (fun q => ?_)
  · have hd := Tite_t q hd
    exact v_loc [0, 1] rfl (t_at (P := fun (e4 : Int32) m => V K 6 (mkM am hn m) 133 [(0, .ref am), (1, .int e4)] []) (Tlp_out hd ho3) KX)
  · have hd := Tite_f q hd
    refine v_aload_n X dX10_blows_14 0 0 rfl rfl ?_
    refine t_getA (j := 1) X rfl fl_X10_13 dX10_blows_15 ?_
    refine v_sipush (v := 310) X dX10_blows_18 (by decide) ?_
    refine v_iconst (v := 3) X dX10_blows_21 (by decide) ?_
    refine v_iload_n X dX10_blows_22 2 2 rfl rfl ?_
    refine v_imul X dX10_blows_23 ?_
    refine v_iadd X dX10_blows_24 ?_
    refine t_iald (j := 1) X hd rfl dX10_blows_25 (fun v6 hd => ?_)
    refine v_istore_n (lv2 := [(3, .int v6), (0, .ref am), (1, .int s1.1), (2, .int s1.2)]) X dX10_blows_26 3 rfl (by decide) rfl ?_
    refine v_aload_n X dX10_blows_27 1 0 rfl rfl ?_
    refine t_getA (j := 1) X rfl fl_X10_13 dX10_blows_28 ?_
    refine v_sipush (v := 310) X dX10_blows_31 (by decide) ?_
    refine v_iconst (v := 3) X dX10_blows_34 (by decide) ?_
    refine v_iload_n X dX10_blows_35 3 2 rfl rfl ?_
    refine v_imul X dX10_blows_36 ?_
    refine v_iadd X dX10_blows_37 ?_
    refine v_iconst (v := 1) X dX10_blows_38 (by decide) ?_
    refine v_iadd X dX10_blows_39 ?_
    refine t_iald (j := 1) X hd rfl dX10_blows_40 (fun v7 hd => ?_)
    refine v_istore (lv2 := [(4, .int v7), (3, .int v6), (0, .ref am), (1, .int s1.1), (2, .int s1.2)]) X dX10_blows_41 (by decide) rfl ?_
    refine v_aload_n X dX10_blows_43 2 0 rfl rfl ?_
    refine t_getA (j := 1) X rfl fl_X10_13 dX10_blows_44 ?_
    refine v_sipush (v := 310) X dX10_blows_47 (by decide) ?_
    refine v_iconst (v := 3) X dX10_blows_50 (by decide) ?_
    refine v_iload_n X dX10_blows_51 4 2 rfl rfl ?_
    refine v_imul X dX10_blows_52 ?_
    refine v_iadd X dX10_blows_53 ?_
    refine v_iconst (v := 2) X dX10_blows_54 (by decide) ?_
    refine v_iadd X dX10_blows_55 ?_
    refine t_iald (j := 1) X hd rfl dX10_blows_56 (fun v8 hd => ?_)
    refine v_istore (lv2 := [(5, .int v8), (4, .int v7), (3, .int v6), (0, .ref am), (1, .int s1.1), (2, .int s1.2)]) X dX10_blows_57 (by decide) rfl ?_
    refine v_aload_n X dX10_blows_59 3 0 rfl rfl ?_
    refine t_getA (j := 22) X rfl fl_X10_78 dX10_blows_60 ?_
    refine v_iload_n X dX10_blows_63 2 3 rfl rfl ?_
    refine t_iald (j := 22) X hd rfl dX10_blows_64 (fun v9 hd => ?_)
    obtain ⟨u10, m1, hd, hd2⟩ := TM.bind_some hd
    have KJ : V K 6 (mkM am hn m1) 127 [(0, .ref am), (1, .int u10), (2, .int s1.2)] [] := by
      clear hd
      have hd := hd2
      refine t_iincL (lv2 := fun v11 => [(2, .int v11), (0, .ref am), (1, .int u10)]) X hd dX10_blows_127 2 rfl (by decide : Int32.ofInt 1 = 1) (by decide) (fun v11 => rfl) (fun v11 hd => ?_)
      refine v_goto (tgt := 4) X dX10_blows_130 (by decide) ?_
      exact v_loc [1, 2, 0] rfl (Tlp_in (P := fun (s1 : Int32 × Int32) m => V K 6 (mkM am hn m) 4 [(0, .ref am), (1, .int s1.1), (2, .int s1.2)] []) hd ih2)
    clear hd2
    refine v_if_eq (tgt := 127) X dX10_blows_65 (by decide) (fun q => ?_) (fun q => ?_)
    · have hd := Tite_t q hd
      exact v_loc [3, 4, 5] rfl (t_at (P := fun (u10 : Int32) m => V K 6 (mkM am hn m) 127 [(0, .ref am), (1, .int u10), (2, .int s1.2)] []) hd KJ)
    · have hd := Tite_f q hd
      refine v_aload_n X dX10_blows_68 3 0 rfl rfl ?_
      refine t_getA (j := 22) X rfl fl_X10_78 dX10_blows_69 ?_
      refine v_iload X dX10_blows_72 1 rfl ?_
      refine t_iald (j := 22) X hd rfl dX10_blows_74 (fun v12 hd => ?_)
      refine v_if_eq (tgt := 127) X dX10_blows_75 (by decide) (fun q => ?_) (fun q => ?_)
      · have hd := Tite_t q hd
        exact v_loc [3, 4, 5] rfl (t_at (P := fun (u10 : Int32) m => V K 6 (mkM am hn m) 127 [(0, .ref am), (1, .int u10), (2, .int s1.2)] []) hd KJ)
      · have hd := Tite_f q hd
        refine v_aload_n X dX10_blows_78 3 0 rfl rfl ?_
        refine t_getA (j := 22) X rfl fl_X10_78 dX10_blows_79 ?_
        refine v_iload X dX10_blows_82 0 rfl ?_
        refine t_iald (j := 22) X hd rfl dX10_blows_84 (fun v13 hd => ?_)
        refine v_if_eq (tgt := 127) X dX10_blows_85 (by decide) (fun q => ?_) (fun q => ?_)
        · have hd := Tite_t q hd
          exact v_loc [3, 4, 5] rfl (t_at (P := fun (u10 : Int32) m => V K 6 (mkM am hn m) 127 [(0, .ref am), (1, .int u10), (2, .int s1.2)] []) hd KJ)
        · have hd := Tite_f q hd
          refine v_aload_n X dX10_blows_88 3 0 rfl rfl ?_
          refine v_iload X dX10_blows_89 0 rfl ?_
          refine v_aload_n X dX10_blows_91 3 0 rfl rfl ?_
          refine t_getA (j := 22) X rfl fl_X10_78 dX10_blows_92 ?_
          refine v_iload X dX10_blows_95 0 rfl ?_
          refine t_iald (j := 22) X hd rfl dX10_blows_97 (fun v14 hd => ?_)
          refine v_iconst (v := 1) X dX10_blows_98 (by decide) ?_
          refine v_isub X dX10_blows_99 ?_
          refine t_callV X hK hd (ct_X10_hinders _ am v8 (v14 - 1)) (lw_V q2180 q2182 qs84 q120 q2183) ⟨rfl, dn_X10_hinders⟩ rfl ⟨by decide, by decide⟩ rfl (Nat.le_of_ble_eq_true rfl) dX10_blows_100 (fun v15 ms hd => ?_)
          show V K 6 (mkM am hn ms) 103 [(5, .int v8), (4, .int v7), (3, .int v6), (0, .ref am), (1, .int s1.1), (2, .int s1.2)] [.int v15]
          refine v_if_eq (tgt := 109) X dX10_blows_103 (by decide) (fun q => ?_) (fun q => ?_)
          · have hd := Tite_t q hd
            refine v_aload_n X dX10_blows_109 3 0 rfl rfl ?_
            refine v_iload X dX10_blows_110 0 rfl ?_
            refine v_aload_n X dX10_blows_112 3 0 rfl rfl ?_
            refine t_getA (j := 22) X rfl fl_X10_78 dX10_blows_113 ?_
            refine v_iload X dX10_blows_116 0 rfl ?_
            refine t_iald (j := 22) X hd rfl dX10_blows_118 (fun v16 hd => ?_)
            refine v_iconst (v := 1) X dX10_blows_119 (by decide) ?_
            refine v_isub X dX10_blows_120 ?_
            refine t_callV X hK hd (ct_X10_swing _ am v8 (v16 - 1)) (lw_V q2184 q2186 qs85 q120 q2187) ⟨rfl, dn_X10_swing⟩ rfl ⟨by decide, by decide⟩ rfl (Nat.le_of_ble_eq_true rfl) dX10_blows_121 (fun v17 ms hd => ?_)
            show V K 6 (mkM am hn ms) 124 [(5, .int v8), (4, .int v7), (3, .int v6), (0, .ref am), (1, .int s1.1), (2, .int s1.2)] []
            refine t_iincL (lv2 := fun v18 => [(1, .int v18), (5, .int v8), (4, .int v7), (3, .int v6), (0, .ref am), (2, .int s1.2)]) X hd dX10_blows_124 4 rfl (by decide : Int32.ofInt 1 = 1) (by decide) (fun v18 => rfl) (fun v18 hd => ?_)
            exact v_loc [4, 0, 5] rfl (t_at (P := fun (u10 : Int32) m => V K 6 (mkM am hn m) 127 [(0, .ref am), (1, .int u10), (2, .int s1.2)] []) hd KJ)
          · have hd := Tite_f q hd
            refine v_goto (tgt := 127) X dX10_blows_106 (by decide) ?_
            exact v_loc [3, 4, 5] rfl (t_at (P := fun (u10 : Int32) m => V K 6 (mkM am hn m) 127 [(0, .ref am), (1, .int u10), (2, .int s1.2)] []) hd KJ)
def dkwX10_isWalked_2 : List UInt8 := [167, 0, 4, 3, 172]
abbrev dktX10_isWalked_2 : List UInt8 := dkwX10_isWalked_2 ++ []
def dkwX10_isWalked_1 : List UInt8 := [153, 0, 21, 42, 180, 0, 13, 17, 0, 210, 16, 10, 28, 104, 96, 27, 96, 46, 158, 0, 7, 4]
abbrev dktX10_isWalked_1 : List UInt8 := dkwX10_isWalked_1 ++ dktX10_isWalked_2
def dkwX10_isWalked_0 : List UInt8 := [42, 27, 28, 182, 1, 2, 153, 0, 42, 42, 180, 0, 13, 16, 10, 16, 10, 28, 104, 96, 27, 96, 46]
abbrev dktX10_isWalked_0 : List UInt8 := dkwX10_isWalked_0 ++ dktX10_isWalked_1
theorem dksX10_isWalked_0 : cX10_isWalked.data.toList.drop 0 = dktX10_isWalked_0 := by decide +kernel
theorem dksX10_isWalked_1 : cX10_isWalked.data.toList.drop 23 = dktX10_isWalked_1 := dk_seg dksX10_isWalked_0 23 rfl rfl
theorem dksX10_isWalked_2 : cX10_isWalked.data.toList.drop 45 = dktX10_isWalked_2 := dk_seg dksX10_isWalked_1 22 rfl rfl
theorem dX10_isWalked_0 : decode cX10_isWalked 0 = .ok (.aload_n 0, 1) := dk_42 (dk_at dksX10_isWalked_0 0 rfl rfl)
theorem dX10_isWalked_1 : decode cX10_isWalked 1 = .ok (.iload_n 1, 1) := dk_27 (dk_at dksX10_isWalked_0 1 rfl rfl)
theorem dX10_isWalked_2 : decode cX10_isWalked 2 = .ok (.iload_n 2, 1) := dk_28 (dk_at dksX10_isWalked_0 2 rfl rfl)
theorem dX10_isWalked_3 : decode cX10_isWalked 3 = .ok (.invokevirtual 258, 3) := dk_182 1 2 (dk_at dksX10_isWalked_0 3 rfl rfl)
theorem dX10_isWalked_6 : decode cX10_isWalked 6 = .ok (.ifCond .eq 42, 3) := dk_153 0 42 (dk_at dksX10_isWalked_0 6 rfl rfl)
theorem dX10_isWalked_9 : decode cX10_isWalked 9 = .ok (.aload_n 0, 1) := dk_42 (dk_at dksX10_isWalked_0 9 rfl rfl)
theorem dX10_isWalked_10 : decode cX10_isWalked 10 = .ok (.getfield 13, 3) := dk_180 0 13 (dk_at dksX10_isWalked_0 10 rfl rfl)
theorem dX10_isWalked_13 : decode cX10_isWalked 13 = .ok (.bipush 10, 2) := dk_16 10 (dk_at dksX10_isWalked_0 13 rfl rfl)
theorem dX10_isWalked_15 : decode cX10_isWalked 15 = .ok (.bipush 10, 2) := dk_16 10 (dk_at dksX10_isWalked_0 15 rfl rfl)
theorem dX10_isWalked_17 : decode cX10_isWalked 17 = .ok (.iload_n 2, 1) := dk_28 (dk_at dksX10_isWalked_0 17 rfl rfl)
theorem dX10_isWalked_18 : decode cX10_isWalked 18 = .ok (.imul, 1) := dk_104 (dk_at dksX10_isWalked_0 18 rfl rfl)
theorem dX10_isWalked_19 : decode cX10_isWalked 19 = .ok (.iadd, 1) := dk_96 (dk_at dksX10_isWalked_0 19 rfl rfl)
theorem dX10_isWalked_20 : decode cX10_isWalked 20 = .ok (.iload_n 1, 1) := dk_27 (dk_at dksX10_isWalked_0 20 rfl rfl)
theorem dX10_isWalked_21 : decode cX10_isWalked 21 = .ok (.iadd, 1) := dk_96 (dk_at dksX10_isWalked_0 21 rfl rfl)
theorem dX10_isWalked_22 : decode cX10_isWalked 22 = .ok (.iaload, 1) := dk_46 (dk_at dksX10_isWalked_0 22 rfl rfl)
theorem dX10_isWalked_23 : decode cX10_isWalked 23 = .ok (.ifCond .eq 21, 3) := dk_153 0 21 (dk_at dksX10_isWalked_1 0 rfl rfl)
theorem dX10_isWalked_26 : decode cX10_isWalked 26 = .ok (.aload_n 0, 1) := dk_42 (dk_at dksX10_isWalked_1 3 rfl rfl)
theorem dX10_isWalked_27 : decode cX10_isWalked 27 = .ok (.getfield 13, 3) := dk_180 0 13 (dk_at dksX10_isWalked_1 4 rfl rfl)
theorem dX10_isWalked_30 : decode cX10_isWalked 30 = .ok (.sipush 210, 3) := dk_17 0 210 (dk_at dksX10_isWalked_1 7 rfl rfl)
theorem dX10_isWalked_33 : decode cX10_isWalked 33 = .ok (.bipush 10, 2) := dk_16 10 (dk_at dksX10_isWalked_1 10 rfl rfl)
theorem dX10_isWalked_35 : decode cX10_isWalked 35 = .ok (.iload_n 2, 1) := dk_28 (dk_at dksX10_isWalked_1 12 rfl rfl)
theorem dX10_isWalked_36 : decode cX10_isWalked 36 = .ok (.imul, 1) := dk_104 (dk_at dksX10_isWalked_1 13 rfl rfl)
theorem dX10_isWalked_37 : decode cX10_isWalked 37 = .ok (.iadd, 1) := dk_96 (dk_at dksX10_isWalked_1 14 rfl rfl)
theorem dX10_isWalked_38 : decode cX10_isWalked 38 = .ok (.iload_n 1, 1) := dk_27 (dk_at dksX10_isWalked_1 15 rfl rfl)
theorem dX10_isWalked_39 : decode cX10_isWalked 39 = .ok (.iadd, 1) := dk_96 (dk_at dksX10_isWalked_1 16 rfl rfl)
theorem dX10_isWalked_40 : decode cX10_isWalked 40 = .ok (.iaload, 1) := dk_46 (dk_at dksX10_isWalked_1 17 rfl rfl)
theorem dX10_isWalked_41 : decode cX10_isWalked 41 = .ok (.ifCond .le 7, 3) := dk_158 0 7 (dk_at dksX10_isWalked_1 18 rfl rfl)
theorem dX10_isWalked_44 : decode cX10_isWalked 44 = .ok (.iconst 1, 1) := dk_4 (dk_at dksX10_isWalked_1 21 rfl rfl)
theorem dX10_isWalked_45 : decode cX10_isWalked 45 = .ok (.goto 4, 3) := dk_167 0 4 (dk_at dksX10_isWalked_2 0 rfl rfl)
theorem dX10_isWalked_48 : decode cX10_isWalked 48 = .ok (.iconst 0, 1) := dk_3 (dk_at dksX10_isWalked_2 3 rfl rfl)
theorem dX10_isWalked_49 : decode cX10_isWalked 49 = .ok (.ireturn, 1) := dk_172 (dk_at dksX10_isWalked_2 4 rfl rfl)
theorem dn_X10_isWalked : yX10_isWalked.cls ≠ "java/lang/invoke/MethodHandle" ∧ yX10_isWalked.cls ≠ "java/lang/invoke/VarHandle" ∧ (parseMethodDescriptor yX10_isWalked.desc).map (fun d => d.parameters.length) = some 2 := by decide +kernel
noncomputable def M_X10_isWalked (p1 : Int32) (p2 : Int32) : TM Bool := TM.bind (M_X10_isCell p1 p2) (fun v1 => TM.bind ((cond v1 (TM.bind (tA 14 704 ((10 + (10 * p2)) + p1)) (fun v3 => if v3 = 0 then TM.pure true else TM.bind (tA 14 704 ((210 + (10 * p2)) + p1)) (fun v4 => if v4 ≤ 0 then TM.pure false else TM.pure true))) (TM.pure false) : TM (Bool))) (fun u2 => TM.pure u2))
set_option maxHeartbeats 4000000 in
theorem ct_X10_isWalked (G : gG) (am : Nat) (p1 : Int32) (p2 : Int32) : gCtM G am yX10_isWalked cX10_isWalked 3 (some .boolean) 1 22 [.ref am, .int p1, .int p2] (M_X10_isWalked p1 p2) (fun x : Bool => some (.int (b2i x))) := by
  refine gCtM.of (by decide) (Nat.le_of_ble_eq_true rfl) (fun K hn ms ms' r hG X hK hd ho => ?_)
  subst hG
  have X : gX K cX10_isWalked 3 "BitingDoorsModel" "isWalked" (some .boolean) 1 22 := X
  show V K 3 (mkM am hn ms) 0 [(0, .ref am), (1, .int p1), (2, .int p2)] []
  unfold M_X10_isWalked at hd
  refine v_aload_n X dX10_isWalked_0 0 0 rfl rfl ?_
  refine v_iload_n X dX10_isWalked_1 1 1 rfl rfl ?_
  refine v_iload_n X dX10_isWalked_2 2 2 rfl rfl ?_
  refine t_callV X hK hd (ct_X10_isCell _ am p1 p2) (lw_V q1974 q1976 qs55 q120 q1977) ⟨rfl, dn_X10_isCell⟩ rfl ⟨by decide, by decide⟩ rfl (Nat.le_of_ble_eq_true rfl) dX10_isWalked_3 (fun v1 ms hd => ?_)
  show V K 3 (mkM am hn ms) 6 [(0, .ref am), (1, .int p1), (2, .int p2)] [.int (b2i v1)]
  obtain ⟨u2, m1, hd, hd2⟩ := TM.bind_some hd
  have KJ : V K 3 (mkM am hn m1) 49 [] [.int (b2i u2)] := by
    clear hd
    have hd := hd2
    exact t_zret X hK hd rfl ho dX10_isWalked_49
  clear hd2
  refine v_ifZ_eq (tgt := 48) X dX10_isWalked_6 (by decide) (fun q => ?_) (fun q => ?_)
  · have hd := Tcnd_f q hd
    refine v_iconst (v := 0) X dX10_isWalked_48 (by decide) ?_
    exact v_loc [] rfl (t_at (P := fun (u2 : Bool) m => V K 3 (mkM am hn m) 49 [] [.int (b2i u2)]) hd KJ)
  · have hd := Tcnd_t q hd
    refine v_aload_n X dX10_isWalked_9 0 0 rfl rfl ?_
    refine t_getA (j := 1) X rfl fl_X10_13 dX10_isWalked_10 ?_
    refine v_bipush (v := 10) X dX10_isWalked_13 (by decide) ?_
    refine v_bipush (v := 10) X dX10_isWalked_15 (by decide) ?_
    refine v_iload_n X dX10_isWalked_17 2 2 rfl rfl ?_
    refine v_imul X dX10_isWalked_18 ?_
    refine v_iadd X dX10_isWalked_19 ?_
    refine v_iload_n X dX10_isWalked_20 1 1 rfl rfl ?_
    refine v_iadd X dX10_isWalked_21 ?_
    refine t_iald (j := 1) X hd rfl dX10_isWalked_22 (fun v3 hd => ?_)
    refine v_if_eq (tgt := 44) X dX10_isWalked_23 (by decide) (fun q => ?_) (fun q => ?_)
    · have hd := Tite_t q hd
      refine v_iconst (v := 1) X dX10_isWalked_44 (by decide) ?_
      refine v_goto (tgt := 49) X dX10_isWalked_45 (by decide) ?_
      exact v_loc [] rfl (t_at (P := fun (u2 : Bool) m => V K 3 (mkM am hn m) 49 [] [.int (b2i u2)]) hd KJ)
    · have hd := Tite_f q hd
      refine v_aload_n X dX10_isWalked_26 0 0 rfl rfl ?_
      refine t_getA (j := 1) X rfl fl_X10_13 dX10_isWalked_27 ?_
      refine v_sipush (v := 210) X dX10_isWalked_30 (by decide) ?_
      refine v_bipush (v := 10) X dX10_isWalked_33 (by decide) ?_
      refine v_iload_n X dX10_isWalked_35 2 2 rfl rfl ?_
      refine v_imul X dX10_isWalked_36 ?_
      refine v_iadd X dX10_isWalked_37 ?_
      refine v_iload_n X dX10_isWalked_38 1 1 rfl rfl ?_
      refine v_iadd X dX10_isWalked_39 ?_
      refine t_iald (j := 1) X hd rfl dX10_isWalked_40 (fun v4 hd => ?_)
      refine v_if_le (tgt := 48) X dX10_isWalked_41 (by decide) (fun q => ?_) (fun q => ?_)
      · have hd := Tite_t q hd
        refine v_iconst (v := 0) X dX10_isWalked_48 (by decide) ?_
        exact v_loc [] rfl (t_at (P := fun (u2 : Bool) m => V K 3 (mkM am hn m) 49 [] [.int (b2i u2)]) hd KJ)
      · have hd := Tite_f q hd
        refine v_iconst (v := 1) X dX10_isWalked_44 (by decide) ?_
        refine v_goto (tgt := 49) X dX10_isWalked_45 (by decide) ?_
        exact v_loc [] rfl (t_at (P := fun (u2 : Bool) m => V K 3 (mkM am hn m) 49 [] [.int (b2i u2)]) hd KJ)
def dkwX10_tries_7 : List UInt8 := [182, 1, 113, 54, 4, 21, 4, 154, 0, 9, 42, 28, 29, 182, 1, 116, 21, 4, 172]
abbrev dktX10_tries_7 : List UInt8 := dkwX10_tries_7 ++ []
def dkwX10_tries_6 : List UInt8 := [182, 1, 110, 154, 0, 5, 7, 172, 29, 155, 0, 8, 29, 5, 164, 0, 5, 8, 172, 42, 28, 29]
abbrev dktX10_tries_6 : List UInt8 := dkwX10_tries_6 ++ dktX10_tries_7
def dkwX10_tries_5 : List UInt8 := [5, 100, 61, 42, 180, 0, 78, 28, 46, 27, 5, 112, 154, 0, 7, 4, 167, 0, 4, 2, 96, 62, 42, 28]
abbrev dktX10_tries_5 : List UInt8 := dkwX10_tries_5 ++ dktX10_tries_6
def dkwX10_tries_4 : List UInt8 := [104, 28, 96, 46, 153, 0, 5, 6, 172, 42, 16, 10, 29, 104, 28, 96, 181, 1, 98, 3, 172, 27, 5, 108]
abbrev dktX10_tries_4 : List UInt8 := dkwX10_tries_4 ++ dktX10_tries_5
def dkwX10_tries_3 : List UInt8 := [167, 0, 4, 3, 96, 62, 42, 28, 29, 182, 1, 107, 154, 0, 5, 5, 172, 42, 180, 0, 81, 16, 10, 29]
abbrev dktX10_tries_3 : List UInt8 := dkwX10_tries_3 ++ dktX10_tries_4
def dkwX10_tries_2 : List UInt8 := [3, 96, 61, 42, 180, 1, 98, 16, 10, 108, 27, 5, 160, 0, 7, 4, 167, 0, 12, 27, 154, 0, 7, 2]
abbrev dktX10_tries_2 : List UInt8 := dkwX10_tries_2 ++ dktX10_tries_3
def dkwX10_tries_1 : List UInt8 := [180, 1, 98, 16, 10, 112, 27, 4, 160, 0, 7, 4, 167, 0, 13, 27, 6, 160, 0, 7, 2, 167, 0, 4]
abbrev dktX10_tries_1 : List UInt8 := dkwX10_tries_1 ++ dktX10_tries_2
def dkwX10_tries_0 : List UInt8 := [27, 2, 160, 0, 5, 3, 172, 42, 180, 1, 98, 2, 160, 0, 5, 4, 172, 27, 7, 162, 0, 97, 42]
abbrev dktX10_tries_0 : List UInt8 := dkwX10_tries_0 ++ dktX10_tries_1
theorem dksX10_tries_0 : cX10_tries.data.toList.drop 0 = dktX10_tries_0 := by decide +kernel
theorem dksX10_tries_1 : cX10_tries.data.toList.drop 23 = dktX10_tries_1 := dk_seg dksX10_tries_0 23 rfl rfl
theorem dksX10_tries_2 : cX10_tries.data.toList.drop 47 = dktX10_tries_2 := dk_seg dksX10_tries_1 24 rfl rfl
theorem dksX10_tries_3 : cX10_tries.data.toList.drop 71 = dktX10_tries_3 := dk_seg dksX10_tries_2 24 rfl rfl
theorem dksX10_tries_4 : cX10_tries.data.toList.drop 95 = dktX10_tries_4 := dk_seg dksX10_tries_3 24 rfl rfl
theorem dksX10_tries_5 : cX10_tries.data.toList.drop 119 = dktX10_tries_5 := dk_seg dksX10_tries_4 24 rfl rfl
theorem dksX10_tries_6 : cX10_tries.data.toList.drop 143 = dktX10_tries_6 := dk_seg dksX10_tries_5 24 rfl rfl
theorem dksX10_tries_7 : cX10_tries.data.toList.drop 165 = dktX10_tries_7 := dk_seg dksX10_tries_6 22 rfl rfl
theorem dX10_tries_0 : decode cX10_tries 0 = .ok (.iload_n 1, 1) := dk_27 (dk_at dksX10_tries_0 0 rfl rfl)
theorem dX10_tries_1 : decode cX10_tries 1 = .ok (.iconst (-1), 1) := dk_2 (dk_at dksX10_tries_0 1 rfl rfl)
theorem dX10_tries_2 : decode cX10_tries 2 = .ok (.if_icmp .ne 5, 3) := dk_160 0 5 (dk_at dksX10_tries_0 2 rfl rfl)
theorem dX10_tries_5 : decode cX10_tries 5 = .ok (.iconst 0, 1) := dk_3 (dk_at dksX10_tries_0 5 rfl rfl)
theorem dX10_tries_6 : decode cX10_tries 6 = .ok (.ireturn, 1) := dk_172 (dk_at dksX10_tries_0 6 rfl rfl)
theorem dX10_tries_7 : decode cX10_tries 7 = .ok (.aload_n 0, 1) := dk_42 (dk_at dksX10_tries_0 7 rfl rfl)
theorem dX10_tries_8 : decode cX10_tries 8 = .ok (.getfield 354, 3) := dk_180 1 98 (dk_at dksX10_tries_0 8 rfl rfl)
theorem dX10_tries_11 : decode cX10_tries 11 = .ok (.iconst (-1), 1) := dk_2 (dk_at dksX10_tries_0 11 rfl rfl)
theorem dX10_tries_12 : decode cX10_tries 12 = .ok (.if_icmp .ne 5, 3) := dk_160 0 5 (dk_at dksX10_tries_0 12 rfl rfl)
theorem dX10_tries_15 : decode cX10_tries 15 = .ok (.iconst 1, 1) := dk_4 (dk_at dksX10_tries_0 15 rfl rfl)
theorem dX10_tries_16 : decode cX10_tries 16 = .ok (.ireturn, 1) := dk_172 (dk_at dksX10_tries_0 16 rfl rfl)
theorem dX10_tries_17 : decode cX10_tries 17 = .ok (.iload_n 1, 1) := dk_27 (dk_at dksX10_tries_0 17 rfl rfl)
theorem dX10_tries_18 : decode cX10_tries 18 = .ok (.iconst 4, 1) := dk_7 (dk_at dksX10_tries_0 18 rfl rfl)
theorem dX10_tries_19 : decode cX10_tries 19 = .ok (.if_icmp .ge 97, 3) := dk_162 0 97 (dk_at dksX10_tries_0 19 rfl rfl)
theorem dX10_tries_22 : decode cX10_tries 22 = .ok (.aload_n 0, 1) := dk_42 (dk_at dksX10_tries_0 22 rfl rfl)
theorem dX10_tries_23 : decode cX10_tries 23 = .ok (.getfield 354, 3) := dk_180 1 98 (dk_at dksX10_tries_1 0 rfl rfl)
theorem dX10_tries_26 : decode cX10_tries 26 = .ok (.bipush 10, 2) := dk_16 10 (dk_at dksX10_tries_1 3 rfl rfl)
theorem dX10_tries_28 : decode cX10_tries 28 = .ok (.irem, 1) := dk_112 (dk_at dksX10_tries_1 5 rfl rfl)
theorem dX10_tries_29 : decode cX10_tries 29 = .ok (.iload_n 1, 1) := dk_27 (dk_at dksX10_tries_1 6 rfl rfl)
theorem dX10_tries_30 : decode cX10_tries 30 = .ok (.iconst 1, 1) := dk_4 (dk_at dksX10_tries_1 7 rfl rfl)
theorem dX10_tries_31 : decode cX10_tries 31 = .ok (.if_icmp .ne 7, 3) := dk_160 0 7 (dk_at dksX10_tries_1 8 rfl rfl)
theorem dX10_tries_34 : decode cX10_tries 34 = .ok (.iconst 1, 1) := dk_4 (dk_at dksX10_tries_1 11 rfl rfl)
theorem dX10_tries_35 : decode cX10_tries 35 = .ok (.goto 13, 3) := dk_167 0 13 (dk_at dksX10_tries_1 12 rfl rfl)
theorem dX10_tries_38 : decode cX10_tries 38 = .ok (.iload_n 1, 1) := dk_27 (dk_at dksX10_tries_1 15 rfl rfl)
theorem dX10_tries_39 : decode cX10_tries 39 = .ok (.iconst 3, 1) := dk_6 (dk_at dksX10_tries_1 16 rfl rfl)
theorem dX10_tries_40 : decode cX10_tries 40 = .ok (.if_icmp .ne 7, 3) := dk_160 0 7 (dk_at dksX10_tries_1 17 rfl rfl)
theorem dX10_tries_43 : decode cX10_tries 43 = .ok (.iconst (-1), 1) := dk_2 (dk_at dksX10_tries_1 20 rfl rfl)
theorem dX10_tries_44 : decode cX10_tries 44 = .ok (.goto 4, 3) := dk_167 0 4 (dk_at dksX10_tries_1 21 rfl rfl)
theorem dX10_tries_47 : decode cX10_tries 47 = .ok (.iconst 0, 1) := dk_3 (dk_at dksX10_tries_2 0 rfl rfl)
theorem dX10_tries_48 : decode cX10_tries 48 = .ok (.iadd, 1) := dk_96 (dk_at dksX10_tries_2 1 rfl rfl)
theorem dX10_tries_49 : decode cX10_tries 49 = .ok (.istore_n 2, 1) := dk_61 (dk_at dksX10_tries_2 2 rfl rfl)
theorem dX10_tries_50 : decode cX10_tries 50 = .ok (.aload_n 0, 1) := dk_42 (dk_at dksX10_tries_2 3 rfl rfl)
theorem dX10_tries_51 : decode cX10_tries 51 = .ok (.getfield 354, 3) := dk_180 1 98 (dk_at dksX10_tries_2 4 rfl rfl)
theorem dX10_tries_54 : decode cX10_tries 54 = .ok (.bipush 10, 2) := dk_16 10 (dk_at dksX10_tries_2 7 rfl rfl)
theorem dX10_tries_56 : decode cX10_tries 56 = .ok (.idiv, 1) := dk_108 (dk_at dksX10_tries_2 9 rfl rfl)
theorem dX10_tries_57 : decode cX10_tries 57 = .ok (.iload_n 1, 1) := dk_27 (dk_at dksX10_tries_2 10 rfl rfl)
theorem dX10_tries_58 : decode cX10_tries 58 = .ok (.iconst 2, 1) := dk_5 (dk_at dksX10_tries_2 11 rfl rfl)
theorem dX10_tries_59 : decode cX10_tries 59 = .ok (.if_icmp .ne 7, 3) := dk_160 0 7 (dk_at dksX10_tries_2 12 rfl rfl)
theorem dX10_tries_62 : decode cX10_tries 62 = .ok (.iconst 1, 1) := dk_4 (dk_at dksX10_tries_2 15 rfl rfl)
theorem dX10_tries_63 : decode cX10_tries 63 = .ok (.goto 12, 3) := dk_167 0 12 (dk_at dksX10_tries_2 16 rfl rfl)
theorem dX10_tries_66 : decode cX10_tries 66 = .ok (.iload_n 1, 1) := dk_27 (dk_at dksX10_tries_2 19 rfl rfl)
theorem dX10_tries_67 : decode cX10_tries 67 = .ok (.ifCond .ne 7, 3) := dk_154 0 7 (dk_at dksX10_tries_2 20 rfl rfl)
theorem dX10_tries_70 : decode cX10_tries 70 = .ok (.iconst (-1), 1) := dk_2 (dk_at dksX10_tries_2 23 rfl rfl)
theorem dX10_tries_71 : decode cX10_tries 71 = .ok (.goto 4, 3) := dk_167 0 4 (dk_at dksX10_tries_3 0 rfl rfl)
theorem dX10_tries_74 : decode cX10_tries 74 = .ok (.iconst 0, 1) := dk_3 (dk_at dksX10_tries_3 3 rfl rfl)
theorem dX10_tries_75 : decode cX10_tries 75 = .ok (.iadd, 1) := dk_96 (dk_at dksX10_tries_3 4 rfl rfl)
theorem dX10_tries_76 : decode cX10_tries 76 = .ok (.istore_n 3, 1) := dk_62 (dk_at dksX10_tries_3 5 rfl rfl)
theorem dX10_tries_77 : decode cX10_tries 77 = .ok (.aload_n 0, 1) := dk_42 (dk_at dksX10_tries_3 6 rfl rfl)
theorem dX10_tries_78 : decode cX10_tries 78 = .ok (.iload_n 2, 1) := dk_28 (dk_at dksX10_tries_3 7 rfl rfl)
theorem dX10_tries_79 : decode cX10_tries 79 = .ok (.iload_n 3, 1) := dk_29 (dk_at dksX10_tries_3 8 rfl rfl)
theorem dX10_tries_80 : decode cX10_tries 80 = .ok (.invokevirtual 363, 3) := dk_182 1 107 (dk_at dksX10_tries_3 9 rfl rfl)
theorem dX10_tries_83 : decode cX10_tries 83 = .ok (.ifCond .ne 5, 3) := dk_154 0 5 (dk_at dksX10_tries_3 12 rfl rfl)
theorem dX10_tries_86 : decode cX10_tries 86 = .ok (.iconst 2, 1) := dk_5 (dk_at dksX10_tries_3 15 rfl rfl)
theorem dX10_tries_87 : decode cX10_tries 87 = .ok (.ireturn, 1) := dk_172 (dk_at dksX10_tries_3 16 rfl rfl)
theorem dX10_tries_88 : decode cX10_tries 88 = .ok (.aload_n 0, 1) := dk_42 (dk_at dksX10_tries_3 17 rfl rfl)
theorem dX10_tries_89 : decode cX10_tries 89 = .ok (.getfield 81, 3) := dk_180 0 81 (dk_at dksX10_tries_3 18 rfl rfl)
theorem dX10_tries_92 : decode cX10_tries 92 = .ok (.bipush 10, 2) := dk_16 10 (dk_at dksX10_tries_3 21 rfl rfl)
theorem dX10_tries_94 : decode cX10_tries 94 = .ok (.iload_n 3, 1) := dk_29 (dk_at dksX10_tries_3 23 rfl rfl)
theorem dX10_tries_95 : decode cX10_tries 95 = .ok (.imul, 1) := dk_104 (dk_at dksX10_tries_4 0 rfl rfl)
theorem dX10_tries_96 : decode cX10_tries 96 = .ok (.iload_n 2, 1) := dk_28 (dk_at dksX10_tries_4 1 rfl rfl)
theorem dX10_tries_97 : decode cX10_tries 97 = .ok (.iadd, 1) := dk_96 (dk_at dksX10_tries_4 2 rfl rfl)
theorem dX10_tries_98 : decode cX10_tries 98 = .ok (.iaload, 1) := dk_46 (dk_at dksX10_tries_4 3 rfl rfl)
theorem dX10_tries_99 : decode cX10_tries 99 = .ok (.ifCond .eq 5, 3) := dk_153 0 5 (dk_at dksX10_tries_4 4 rfl rfl)
theorem dX10_tries_102 : decode cX10_tries 102 = .ok (.iconst 3, 1) := dk_6 (dk_at dksX10_tries_4 7 rfl rfl)
theorem dX10_tries_103 : decode cX10_tries 103 = .ok (.ireturn, 1) := dk_172 (dk_at dksX10_tries_4 8 rfl rfl)
theorem dX10_tries_104 : decode cX10_tries 104 = .ok (.aload_n 0, 1) := dk_42 (dk_at dksX10_tries_4 9 rfl rfl)
theorem dX10_tries_105 : decode cX10_tries 105 = .ok (.bipush 10, 2) := dk_16 10 (dk_at dksX10_tries_4 10 rfl rfl)
theorem dX10_tries_107 : decode cX10_tries 107 = .ok (.iload_n 3, 1) := dk_29 (dk_at dksX10_tries_4 12 rfl rfl)
theorem dX10_tries_108 : decode cX10_tries 108 = .ok (.imul, 1) := dk_104 (dk_at dksX10_tries_4 13 rfl rfl)
theorem dX10_tries_109 : decode cX10_tries 109 = .ok (.iload_n 2, 1) := dk_28 (dk_at dksX10_tries_4 14 rfl rfl)
theorem dX10_tries_110 : decode cX10_tries 110 = .ok (.iadd, 1) := dk_96 (dk_at dksX10_tries_4 15 rfl rfl)
theorem dX10_tries_111 : decode cX10_tries 111 = .ok (.putfield 354, 3) := dk_181 1 98 (dk_at dksX10_tries_4 16 rfl rfl)
theorem dX10_tries_114 : decode cX10_tries 114 = .ok (.iconst 0, 1) := dk_3 (dk_at dksX10_tries_4 19 rfl rfl)
theorem dX10_tries_115 : decode cX10_tries 115 = .ok (.ireturn, 1) := dk_172 (dk_at dksX10_tries_4 20 rfl rfl)
theorem dX10_tries_116 : decode cX10_tries 116 = .ok (.iload_n 1, 1) := dk_27 (dk_at dksX10_tries_4 21 rfl rfl)
theorem dX10_tries_117 : decode cX10_tries 117 = .ok (.iconst 2, 1) := dk_5 (dk_at dksX10_tries_4 22 rfl rfl)
theorem dX10_tries_118 : decode cX10_tries 118 = .ok (.idiv, 1) := dk_108 (dk_at dksX10_tries_4 23 rfl rfl)
theorem dX10_tries_119 : decode cX10_tries 119 = .ok (.iconst 2, 1) := dk_5 (dk_at dksX10_tries_5 0 rfl rfl)
theorem dX10_tries_120 : decode cX10_tries 120 = .ok (.isub, 1) := dk_100 (dk_at dksX10_tries_5 1 rfl rfl)
theorem dX10_tries_121 : decode cX10_tries 121 = .ok (.istore_n 2, 1) := dk_61 (dk_at dksX10_tries_5 2 rfl rfl)
theorem dX10_tries_122 : decode cX10_tries 122 = .ok (.aload_n 0, 1) := dk_42 (dk_at dksX10_tries_5 3 rfl rfl)
theorem dX10_tries_123 : decode cX10_tries 123 = .ok (.getfield 78, 3) := dk_180 0 78 (dk_at dksX10_tries_5 4 rfl rfl)
theorem dX10_tries_126 : decode cX10_tries 126 = .ok (.iload_n 2, 1) := dk_28 (dk_at dksX10_tries_5 7 rfl rfl)
theorem dX10_tries_127 : decode cX10_tries 127 = .ok (.iaload, 1) := dk_46 (dk_at dksX10_tries_5 8 rfl rfl)
theorem dX10_tries_128 : decode cX10_tries 128 = .ok (.iload_n 1, 1) := dk_27 (dk_at dksX10_tries_5 9 rfl rfl)
theorem dX10_tries_129 : decode cX10_tries 129 = .ok (.iconst 2, 1) := dk_5 (dk_at dksX10_tries_5 10 rfl rfl)
theorem dX10_tries_130 : decode cX10_tries 130 = .ok (.irem, 1) := dk_112 (dk_at dksX10_tries_5 11 rfl rfl)
theorem dX10_tries_131 : decode cX10_tries 131 = .ok (.ifCond .ne 7, 3) := dk_154 0 7 (dk_at dksX10_tries_5 12 rfl rfl)
theorem dX10_tries_134 : decode cX10_tries 134 = .ok (.iconst 1, 1) := dk_4 (dk_at dksX10_tries_5 15 rfl rfl)
theorem dX10_tries_135 : decode cX10_tries 135 = .ok (.goto 4, 3) := dk_167 0 4 (dk_at dksX10_tries_5 16 rfl rfl)
theorem dX10_tries_138 : decode cX10_tries 138 = .ok (.iconst (-1), 1) := dk_2 (dk_at dksX10_tries_5 19 rfl rfl)
theorem dX10_tries_139 : decode cX10_tries 139 = .ok (.iadd, 1) := dk_96 (dk_at dksX10_tries_5 20 rfl rfl)
theorem dX10_tries_140 : decode cX10_tries 140 = .ok (.istore_n 3, 1) := dk_62 (dk_at dksX10_tries_5 21 rfl rfl)
theorem dX10_tries_141 : decode cX10_tries 141 = .ok (.aload_n 0, 1) := dk_42 (dk_at dksX10_tries_5 22 rfl rfl)
theorem dX10_tries_142 : decode cX10_tries 142 = .ok (.iload_n 2, 1) := dk_28 (dk_at dksX10_tries_5 23 rfl rfl)
theorem dX10_tries_143 : decode cX10_tries 143 = .ok (.invokevirtual 366, 3) := dk_182 1 110 (dk_at dksX10_tries_6 0 rfl rfl)
theorem dX10_tries_146 : decode cX10_tries 146 = .ok (.ifCond .ne 5, 3) := dk_154 0 5 (dk_at dksX10_tries_6 3 rfl rfl)
theorem dX10_tries_149 : decode cX10_tries 149 = .ok (.iconst 4, 1) := dk_7 (dk_at dksX10_tries_6 6 rfl rfl)
theorem dX10_tries_150 : decode cX10_tries 150 = .ok (.ireturn, 1) := dk_172 (dk_at dksX10_tries_6 7 rfl rfl)
theorem dX10_tries_151 : decode cX10_tries 151 = .ok (.iload_n 3, 1) := dk_29 (dk_at dksX10_tries_6 8 rfl rfl)
theorem dX10_tries_152 : decode cX10_tries 152 = .ok (.ifCond .lt 8, 3) := dk_155 0 8 (dk_at dksX10_tries_6 9 rfl rfl)
theorem dX10_tries_155 : decode cX10_tries 155 = .ok (.iload_n 3, 1) := dk_29 (dk_at dksX10_tries_6 12 rfl rfl)
theorem dX10_tries_156 : decode cX10_tries 156 = .ok (.iconst 2, 1) := dk_5 (dk_at dksX10_tries_6 13 rfl rfl)
theorem dX10_tries_157 : decode cX10_tries 157 = .ok (.if_icmp .le 5, 3) := dk_164 0 5 (dk_at dksX10_tries_6 14 rfl rfl)
theorem dX10_tries_160 : decode cX10_tries 160 = .ok (.iconst 5, 1) := dk_8 (dk_at dksX10_tries_6 17 rfl rfl)
theorem dX10_tries_161 : decode cX10_tries 161 = .ok (.ireturn, 1) := dk_172 (dk_at dksX10_tries_6 18 rfl rfl)
theorem dX10_tries_162 : decode cX10_tries 162 = .ok (.aload_n 0, 1) := dk_42 (dk_at dksX10_tries_6 19 rfl rfl)
theorem dX10_tries_163 : decode cX10_tries 163 = .ok (.iload_n 2, 1) := dk_28 (dk_at dksX10_tries_6 20 rfl rfl)
theorem dX10_tries_164 : decode cX10_tries 164 = .ok (.iload_n 3, 1) := dk_29 (dk_at dksX10_tries_6 21 rfl rfl)
theorem dX10_tries_165 : decode cX10_tries 165 = .ok (.invokevirtual 369, 3) := dk_182 1 113 (dk_at dksX10_tries_7 0 rfl rfl)
theorem dX10_tries_168 : decode cX10_tries 168 = .ok (.istore 4, 2) := dk_54 4 (dk_at dksX10_tries_7 3 rfl rfl)
theorem dX10_tries_170 : decode cX10_tries 170 = .ok (.iload 4, 2) := dk_21 4 (dk_at dksX10_tries_7 5 rfl rfl)
theorem dX10_tries_172 : decode cX10_tries 172 = .ok (.ifCond .ne 9, 3) := dk_154 0 9 (dk_at dksX10_tries_7 7 rfl rfl)
theorem dX10_tries_175 : decode cX10_tries 175 = .ok (.aload_n 0, 1) := dk_42 (dk_at dksX10_tries_7 10 rfl rfl)
theorem dX10_tries_176 : decode cX10_tries 176 = .ok (.iload_n 2, 1) := dk_28 (dk_at dksX10_tries_7 11 rfl rfl)
theorem dX10_tries_177 : decode cX10_tries 177 = .ok (.iload_n 3, 1) := dk_29 (dk_at dksX10_tries_7 12 rfl rfl)
theorem dX10_tries_178 : decode cX10_tries 178 = .ok (.invokevirtual 372, 3) := dk_182 1 116 (dk_at dksX10_tries_7 13 rfl rfl)
theorem dX10_tries_181 : decode cX10_tries 181 = .ok (.iload 4, 2) := dk_21 4 (dk_at dksX10_tries_7 16 rfl rfl)
theorem dX10_tries_183 : decode cX10_tries 183 = .ok (.ireturn, 1) := dk_172 (dk_at dksX10_tries_7 18 rfl rfl)
theorem fp_X10_354 {nm : String} : gFp "BitingDoorsModel" nm 354 [8] 45 .int := by
  intro args s hts hN ci hc
  simp only [List.mem_cons, List.not_mem_nil, or_false] at hc
  subst hc
  exact ⟨RX10, TX10, 64, "BitingDoorsModel", gCl_X10, in_X10, by decide, Or.inl ⟨rfl, Or.inl (hts _ q1695)⟩, fun _ h => h, rfl, fun D tys hK => gap_X10 hts hK⟩
theorem dn_X10_tries : yX10_tries.cls ≠ "java/lang/invoke/MethodHandle" ∧ yX10_tries.cls ≠ "java/lang/invoke/VarHandle" ∧ (parseMethodDescriptor yX10_tries.desc).map (fun d => d.parameters.length) = some 1 := by decide +kernel
noncomputable def M_X10_tries (p1 : Int32) : TM Int32 := if p1 = (-1) then TM.pure 0 else TM.bind (tI 45) (fun v1 => if v1 = (-1) then TM.pure 1 else if 4 ≤ p1 then TM.lv ((p1 / 2) - 2) (fun v2 => TM.bind (tA 43 10 v2) (fun v3 => TM.bind ((if (p1 - p1 / 2 * 2) = 0 then TM.pure 1 else TM.pure (-1) : TM (Int32))) (fun u4 => TM.lv (v3 + u4) (fun v5 => TM.bind (M_X10_isAt v2) (fun v6 => cond v6 (if v5 < 0 then TM.pure 5 else if v5 ≤ 2 then TM.bind (M_X10_hinders v2 v5) (fun v7 => TM.bind ((if v7 = 0 then TM.bind (M_X10_swing v2 v5) (fun v9 => TM.pure ()) else TM.pure () : TM (Unit))) (fun u8 => TM.pure v7)) else TM.pure 5) (TM.pure 4)))))) else TM.bind (tI 45) (fun v10 => TM.bind ((if p1 = 1 then TM.pure 1 else if p1 = 3 then TM.pure (-1) else TM.pure 0 : TM (Int32))) (fun u11 => TM.lv ((v10 - v10 / 10 * 10) + u11) (fun v12 => TM.bind (tI 45) (fun v13 => TM.bind ((if p1 = 2 then TM.pure 1 else if p1 = 0 then TM.pure (-1) else TM.pure 0 : TM (Int32))) (fun u14 => TM.lv ((v13 / 10) + u14) (fun v15 => TM.bind (M_X10_isWalked v12 v15) (fun v16 => cond v16 (TM.bind (tA 44 100 ((10 * v15) + v12)) (fun v17 => if v17 = 0 then TM.bind (sI 45 ((10 * v15) + v12)) (fun _ => TM.pure 0) else TM.pure 3)) (TM.pure 2)))))))))
set_option maxHeartbeats 4000000 in
theorem ct_X10_tries (G : gG) (am : Nat) (p1 : Int32) : gCtM G am yX10_tries cX10_tries 5 (some .int) 4 103 [.ref am, .int p1] (M_X10_tries p1) (fun x : Int32 => some (.int x)) := by
  refine gCtM.of (by decide) (Nat.le_of_ble_eq_true rfl) (fun K hn ms ms' r hG X hK hd ho => ?_)
  subst hG
  have X : gX K cX10_tries 5 "BitingDoorsModel" "tries" (some .int) 4 103 := X
  show V K 5 (mkM am hn ms) 0 [(0, .ref am), (1, .int p1)] []
  unfold M_X10_tries at hd
  refine v_iload_n X dX10_tries_0 1 1 rfl rfl ?_
  refine v_iconst (v := (-1)) X dX10_tries_1 (by decide) ?_
  refine v_icmp_ne (tgt := 7) X dX10_tries_2 (by decide) (fun q => ?_) (fun q => ?_)
  · have hd := Tite_f q hd
    refine v_aload_n X dX10_tries_7 0 0 rfl rfl ?_
    refine t_getI X hd rfl fl_X10_354 dX10_tries_8 (fun v1 hd => ?_)
    refine v_iconst (v := (-1)) X dX10_tries_11 (by decide) ?_
    refine v_icmp_ne (tgt := 17) X dX10_tries_12 (by decide) (fun q => ?_) (fun q => ?_)
    · have hd := Tite_f q hd
      refine v_iload_n X dX10_tries_17 1 1 rfl rfl ?_
      refine v_iconst (v := 4) X dX10_tries_18 (by decide) ?_
      refine v_icmp_ge (tgt := 116) X dX10_tries_19 (by decide) (fun q => ?_) (fun q => ?_)
      · have hd := Tite_t q hd
        refine v_iload_n X dX10_tries_116 1 1 rfl rfl ?_
        refine v_iconst (v := 2) X dX10_tries_117 (by decide) ?_
        refine v_idiv X dX10_tries_118 (by decide) ?_
        refine v_iconst (v := 2) X dX10_tries_119 (by decide) ?_
        refine v_isub X dX10_tries_120 ?_
        refine t_lvI hd (fun v2 hd => ?_)
        refine v_istore_n (lv2 := [(2, .int v2), (0, .ref am), (1, .int p1)]) X dX10_tries_121 2 rfl (by decide) rfl ?_
        refine v_aload_n X dX10_tries_122 1 0 rfl rfl ?_
        refine t_getA (j := 22) X rfl fl_X10_78 dX10_tries_123 ?_
        refine v_iload_n X dX10_tries_126 0 2 rfl rfl ?_
        refine t_iald (j := 22) X hd rfl dX10_tries_127 (fun v3 hd => ?_)
        refine v_iload_n X dX10_tries_128 2 1 rfl rfl ?_
        refine v_iconst (v := 2) X dX10_tries_129 (by decide) ?_
        refine v_irem X dX10_tries_130 (by decide) ?_
        obtain ⟨u4, m1, hd, hd2⟩ := TM.bind_some hd
        have KJ : V K 5 (mkM am hn m1) 139 [(0, .ref am), (2, .int v2)] [.int u4, .int v3] := by
          clear hd
          have hd := hd2
          refine v_iadd X dX10_tries_139 ?_
          refine t_lvI hd (fun v5 hd => ?_)
          refine v_istore_n (lv2 := [(3, .int v5), (0, .ref am), (2, .int v2)]) X dX10_tries_140 3 rfl (by decide) rfl ?_
          refine v_aload_n X dX10_tries_141 1 0 rfl rfl ?_
          refine v_iload_n X dX10_tries_142 2 2 rfl rfl ?_
          refine t_callV X hK hd (ct_X10_isAt _ am v2) (lw_V q2176 q2178 qs83 q120 q2179) ⟨rfl, dn_X10_isAt⟩ rfl ⟨by decide, by decide⟩ rfl (Nat.le_of_ble_eq_true rfl) dX10_tries_143 (fun v6 ms hd => ?_)
          show V K 5 (mkM am hn ms) 146 [(3, .int v5), (0, .ref am), (2, .int v2)] [.int (b2i v6)]
          refine v_ifZ_ne (tgt := 151) X dX10_tries_146 (by decide) (fun q => ?_) (fun q => ?_)
          · have hd := Tcnd_t q hd
            refine v_iload_n X dX10_tries_151 0 3 rfl rfl ?_
            refine v_if_lt (tgt := 160) X dX10_tries_152 (by decide) (fun q => ?_) (fun q => ?_)
            · have hd := Tite_t q hd
              refine v_iconst (v := 5) X dX10_tries_160 (by decide) ?_
              exact t_iret X hK hd ho dX10_tries_161
            · have hd := Tite_f q hd
              refine v_iload_n X dX10_tries_155 0 3 rfl rfl ?_
              refine v_iconst (v := 2) X dX10_tries_156 (by decide) ?_
              refine v_icmp_le (tgt := 162) X dX10_tries_157 (by decide) (fun q => ?_) (fun q => ?_)
              · have hd := Tite_t q hd
                refine v_aload_n X dX10_tries_162 1 0 rfl rfl ?_
                refine v_iload_n X dX10_tries_163 2 2 rfl rfl ?_
                refine v_iload_n X dX10_tries_164 0 3 rfl rfl ?_
                refine t_callV X hK hd (ct_X10_hinders _ am v2 v5) (lw_V q2180 q2182 qs84 q120 q2183) ⟨rfl, dn_X10_hinders⟩ rfl ⟨by decide, by decide⟩ rfl (Nat.le_of_ble_eq_true rfl) dX10_tries_165 (fun v7 ms hd => ?_)
                show V K 5 (mkM am hn ms) 168 [(3, .int v5), (0, .ref am), (2, .int v2)] [.int v7]
                refine v_istore (lv2 := [(4, .int v7), (3, .int v5), (0, .ref am), (2, .int v2)]) X dX10_tries_168 (by decide) rfl ?_
                refine v_iload X dX10_tries_170 0 rfl ?_
                obtain ⟨u8, m1, hd, hd2⟩ := TM.bind_some hd
                have KJ : V K 5 (mkM am hn m1) 181 [(4, .int v7)] [] := by
                  clear hd
                  have hd := hd2
                  refine v_iload X dX10_tries_181 0 rfl ?_
                  exact t_iret X hK hd ho dX10_tries_183
                clear hd2
                refine v_if_ne (tgt := 181) X dX10_tries_172 (by decide) (fun q => ?_) (fun q => ?_)
                · have hd := Tite_f q hd
                  exact v_loc [0] rfl (t_at (P := fun (u8 : Unit) m => V K 5 (mkM am hn m) 181 [(4, .int v7)] []) hd KJ)
                · have hd := Tite_t q hd
                  refine v_aload_n X dX10_tries_175 2 0 rfl rfl ?_
                  refine v_iload_n X dX10_tries_176 3 2 rfl rfl ?_
                  refine v_iload_n X dX10_tries_177 1 3 rfl rfl ?_
                  refine t_callV X hK hd (ct_X10_swing _ am v2 v5) (lw_V q2184 q2186 qs85 q120 q2187) ⟨rfl, dn_X10_swing⟩ rfl ⟨by decide, by decide⟩ rfl (Nat.le_of_ble_eq_true rfl) dX10_tries_178 (fun v9 ms hd => ?_)
                  show V K 5 (mkM am hn ms) 181 [(4, .int v7), (3, .int v5), (0, .ref am), (2, .int v2)] []
                  exact v_loc [0] rfl (t_at (P := fun (u8 : Unit) m => V K 5 (mkM am hn m) 181 [(4, .int v7)] []) hd KJ)
              · have hd := Tite_f q hd
                refine v_iconst (v := 5) X dX10_tries_160 (by decide) ?_
                exact t_iret X hK hd ho dX10_tries_161
          · have hd := Tcnd_f q hd
            refine v_iconst (v := 4) X dX10_tries_149 (by decide) ?_
            exact t_iret X hK hd ho dX10_tries_150
        clear hd2
        refine v_if_ne (tgt := 138) X dX10_tries_131 (by decide) (fun q => ?_) (fun q => ?_)
        · have hd := Tite_f q hd
          refine v_iconst (v := (-1)) X dX10_tries_138 (by decide) ?_
          exact v_loc [1, 0] rfl (t_at (P := fun (u4 : Int32) m => V K 5 (mkM am hn m) 139 [(0, .ref am), (2, .int v2)] [.int u4, .int v3]) hd KJ)
        · have hd := Tite_t q hd
          refine v_iconst (v := 1) X dX10_tries_134 (by decide) ?_
          refine v_goto (tgt := 139) X dX10_tries_135 (by decide) ?_
          exact v_loc [1, 0] rfl (t_at (P := fun (u4 : Int32) m => V K 5 (mkM am hn m) 139 [(0, .ref am), (2, .int v2)] [.int u4, .int v3]) hd KJ)
      · have hd := Tite_f q hd
        refine v_aload_n X dX10_tries_22 0 0 rfl rfl ?_
        refine t_getI X hd rfl fl_X10_354 dX10_tries_23 (fun v10 hd => ?_)
        refine v_bipush (v := 10) X dX10_tries_26 (by decide) ?_
        refine v_irem X dX10_tries_28 (by decide) ?_
        refine v_iload_n X dX10_tries_29 1 1 rfl rfl ?_
        refine v_iconst (v := 1) X dX10_tries_30 (by decide) ?_
        obtain ⟨u11, m1, hd, hd2⟩ := TM.bind_some hd
        have KJ : V K 5 (mkM am hn m1) 48 [(0, .ref am), (1, .int p1)] [.int u11, .int (v10 - v10 / 10 * 10)] := by
          clear hd
          have hd := hd2
          refine v_iadd X dX10_tries_48 ?_
          refine t_lvI hd (fun v12 hd => ?_)
          refine v_istore_n (lv2 := [(2, .int v12), (0, .ref am), (1, .int p1)]) X dX10_tries_49 2 rfl (by decide) rfl ?_
          refine v_aload_n X dX10_tries_50 1 0 rfl rfl ?_
          refine t_getI X hd rfl fl_X10_354 dX10_tries_51 (fun v13 hd => ?_)
          refine v_bipush (v := 10) X dX10_tries_54 (by decide) ?_
          refine v_idiv X dX10_tries_56 (by decide) ?_
          refine v_iload_n X dX10_tries_57 2 1 rfl rfl ?_
          refine v_iconst (v := 2) X dX10_tries_58 (by decide) ?_
          obtain ⟨u14, m1, hd, hd2⟩ := TM.bind_some hd
          have KJ : V K 5 (mkM am hn m1) 75 [(0, .ref am), (2, .int v12)] [.int u14, .int (v13 / 10)] := by
            clear hd
            have hd := hd2
            refine v_iadd X dX10_tries_75 ?_
            refine t_lvI hd (fun v15 hd => ?_)
            refine v_istore_n (lv2 := [(3, .int v15), (0, .ref am), (2, .int v12)]) X dX10_tries_76 3 rfl (by decide) rfl ?_
            refine v_aload_n X dX10_tries_77 1 0 rfl rfl ?_
            refine v_iload_n X dX10_tries_78 2 2 rfl rfl ?_
            refine v_iload_n X dX10_tries_79 0 3 rfl rfl ?_
            refine t_callV X hK hd (ct_X10_isWalked _ am v12 v15) (lw_V q2152 q2154 qs79 q120 q2155) ⟨rfl, dn_X10_isWalked⟩ rfl ⟨by decide, by decide⟩ rfl (Nat.le_of_ble_eq_true rfl) dX10_tries_80 (fun v16 ms hd => ?_)
            show V K 5 (mkM am hn ms) 83 [(3, .int v15), (0, .ref am), (2, .int v12)] [.int (b2i v16)]
            refine v_ifZ_ne (tgt := 88) X dX10_tries_83 (by decide) (fun q => ?_) (fun q => ?_)
            · have hd := Tcnd_t q hd
              refine v_aload_n X dX10_tries_88 1 0 rfl rfl ?_
              refine t_getA (j := 23) X rfl fl_X10_81 dX10_tries_89 ?_
              refine v_bipush (v := 10) X dX10_tries_92 (by decide) ?_
              refine v_iload_n X dX10_tries_94 0 3 rfl rfl ?_
              refine v_imul X dX10_tries_95 ?_
              refine v_iload_n X dX10_tries_96 2 2 rfl rfl ?_
              refine v_iadd X dX10_tries_97 ?_
              refine t_iald (j := 23) X hd rfl dX10_tries_98 (fun v17 hd => ?_)
              refine v_if_eq (tgt := 104) X dX10_tries_99 (by decide) (fun q => ?_) (fun q => ?_)
              · have hd := Tite_t q hd
                refine v_aload_n X dX10_tries_104 1 0 rfl rfl ?_
                refine v_bipush (v := 10) X dX10_tries_105 (by decide) ?_
                refine v_iload_n X dX10_tries_107 0 3 rfl rfl ?_
                refine v_imul X dX10_tries_108 ?_
                refine v_iload_n X dX10_tries_109 2 2 rfl rfl ?_
                refine v_iadd X dX10_tries_110 ?_
                refine t_putI X hd rfl fp_X10_354 dX10_tries_111 (fun ms hd => ?_)
                refine v_iconst (v := 0) X dX10_tries_114 (by decide) ?_
                exact t_iret X hK hd ho dX10_tries_115
              · have hd := Tite_f q hd
                refine v_iconst (v := 3) X dX10_tries_102 (by decide) ?_
                exact t_iret X hK hd ho dX10_tries_103
            · have hd := Tcnd_f q hd
              refine v_iconst (v := 2) X dX10_tries_86 (by decide) ?_
              exact t_iret X hK hd ho dX10_tries_87
          clear hd2
          refine v_icmp_ne (tgt := 66) X dX10_tries_59 (by decide) (fun q => ?_) (fun q => ?_)
          · have hd := Tite_f q hd
            refine v_iload_n X dX10_tries_66 2 1 rfl rfl ?_
            refine v_if_ne (tgt := 74) X dX10_tries_67 (by decide) (fun q => ?_) (fun q => ?_)
            · have hd := Tite_f q hd
              refine v_iconst (v := 0) X dX10_tries_74 (by decide) ?_
              exact v_loc [1, 0] rfl (t_at (P := fun (u14 : Int32) m => V K 5 (mkM am hn m) 75 [(0, .ref am), (2, .int v12)] [.int u14, .int (v13 / 10)]) hd KJ)
            · have hd := Tite_t q hd
              refine v_iconst (v := (-1)) X dX10_tries_70 (by decide) ?_
              refine v_goto (tgt := 75) X dX10_tries_71 (by decide) ?_
              exact v_loc [1, 0] rfl (t_at (P := fun (u14 : Int32) m => V K 5 (mkM am hn m) 75 [(0, .ref am), (2, .int v12)] [.int u14, .int (v13 / 10)]) hd KJ)
          · have hd := Tite_t q hd
            refine v_iconst (v := 1) X dX10_tries_62 (by decide) ?_
            refine v_goto (tgt := 75) X dX10_tries_63 (by decide) ?_
            exact v_loc [1, 0] rfl (t_at (P := fun (u14 : Int32) m => V K 5 (mkM am hn m) 75 [(0, .ref am), (2, .int v12)] [.int u14, .int (v13 / 10)]) hd KJ)
        clear hd2
        refine v_icmp_ne (tgt := 38) X dX10_tries_31 (by decide) (fun q => ?_) (fun q => ?_)
        · have hd := Tite_f q hd
          refine v_iload_n X dX10_tries_38 1 1 rfl rfl ?_
          refine v_iconst (v := 3) X dX10_tries_39 (by decide) ?_
          refine v_icmp_ne (tgt := 47) X dX10_tries_40 (by decide) (fun q => ?_) (fun q => ?_)
          · have hd := Tite_f q hd
            refine v_iconst (v := 0) X dX10_tries_47 (by decide) ?_
            exact v_loc [0, 1] rfl (t_at (P := fun (u11 : Int32) m => V K 5 (mkM am hn m) 48 [(0, .ref am), (1, .int p1)] [.int u11, .int (v10 - v10 / 10 * 10)]) hd KJ)
          · have hd := Tite_t q hd
            refine v_iconst (v := (-1)) X dX10_tries_43 (by decide) ?_
            refine v_goto (tgt := 48) X dX10_tries_44 (by decide) ?_
            exact v_loc [0, 1] rfl (t_at (P := fun (u11 : Int32) m => V K 5 (mkM am hn m) 48 [(0, .ref am), (1, .int p1)] [.int u11, .int (v10 - v10 / 10 * 10)]) hd KJ)
        · have hd := Tite_t q hd
          refine v_iconst (v := 1) X dX10_tries_34 (by decide) ?_
          refine v_goto (tgt := 48) X dX10_tries_35 (by decide) ?_
          exact v_loc [0, 1] rfl (t_at (P := fun (u11 : Int32) m => V K 5 (mkM am hn m) 48 [(0, .ref am), (1, .int p1)] [.int u11, .int (v10 - v10 / 10 * 10)]) hd KJ)
    · have hd := Tite_t q hd
      refine v_iconst (v := 1) X dX10_tries_15 (by decide) ?_
      exact t_iret X hK hd ho dX10_tries_16
  · have hd := Tite_t q hd
    refine v_iconst (v := 0) X dX10_tries_5 (by decide) ?_
    exact t_iret X hK hd ho dX10_tries_6
