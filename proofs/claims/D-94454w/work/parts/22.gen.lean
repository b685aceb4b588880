set_option maxRecDepth 100000
def dkwX3_isAt_4 : List UInt8 := [21, 4, 104, 29, 96, 182, 0, 56, 153, 0, 5, 4, 172, 132, 2, 1, 167, 255, 148, 3, 172]
abbrev dktX3_isAt_4 : List UInt8 := dkwX3_isAt_4 ++ []
def dkwX3_isAt_3 : List UInt8 := [154, 0, 35, 42, 180, 0, 12, 180, 0, 32, 27, 50, 42, 180, 0, 18, 27, 46, 3, 182, 0, 49, 16, 10]
abbrev dktX3_isAt_3 : List UInt8 := dkwX3_isAt_3 ++ dktX3_isAt_4
def dkwX3_isAt_2 : List UInt8 := [21, 4, 182, 0, 62, 153, 0, 55, 42, 27, 182, 0, 53, 16, 10, 21, 4, 104, 29, 96, 182, 0, 56]
abbrev dktX3_isAt_2 : List UInt8 := dkwX3_isAt_2 ++ dktX3_isAt_3
def dkwX3_isAt_1 : List UInt8 := [180, 0, 25, 16, 10, 108, 28, 6, 108, 96, 4, 100, 54, 4, 28, 7, 159, 0, 68, 42, 180, 0, 12, 29]
abbrev dktX3_isAt_1 : List UInt8 := dkwX3_isAt_1 ++ dktX3_isAt_2
def dkwX3_isAt_0 : List UInt8 := [3, 61, 28, 16, 9, 162, 0, 108, 42, 180, 0, 25, 16, 10, 112, 28, 6, 112, 96, 4, 100, 62, 42]
abbrev dktX3_isAt_0 : List UInt8 := dkwX3_isAt_0 ++ dktX3_isAt_1
theorem dksX3_isAt_0 : cX3_isAt.data.toList.drop 0 = dktX3_isAt_0 := by decide +kernel
theorem dksX3_isAt_1 : cX3_isAt.data.toList.drop 23 = dktX3_isAt_1 := dk_seg dksX3_isAt_0 23 rfl rfl
theorem dksX3_isAt_2 : cX3_isAt.data.toList.drop 47 = dktX3_isAt_2 := dk_seg dksX3_isAt_1 24 rfl rfl
theorem dksX3_isAt_3 : cX3_isAt.data.toList.drop 70 = dktX3_isAt_3 := dk_seg dksX3_isAt_2 23 rfl rfl
theorem dksX3_isAt_4 : cX3_isAt.data.toList.drop 94 = dktX3_isAt_4 := dk_seg dksX3_isAt_3 24 rfl rfl
theorem dX3_isAt_0 : decode cX3_isAt 0 = .ok (.iconst 0, 1) := dk_3 (dk_at dksX3_isAt_0 0 rfl rfl)
theorem dX3_isAt_1 : decode cX3_isAt 1 = .ok (.istore_n 2, 1) := dk_61 (dk_at dksX3_isAt_0 1 rfl rfl)
theorem dX3_isAt_2 : decode cX3_isAt 2 = .ok (.iload_n 2, 1) := dk_28 (dk_at dksX3_isAt_0 2 rfl rfl)
theorem dX3_isAt_3 : decode cX3_isAt 3 = .ok (.bipush 9, 2) := dk_16 9 (dk_at dksX3_isAt_0 3 rfl rfl)
theorem dX3_isAt_5 : decode cX3_isAt 5 = .ok (.if_icmp .ge 108, 3) := dk_162 0 108 (dk_at dksX3_isAt_0 5 rfl rfl)
theorem dX3_isAt_8 : decode cX3_isAt 8 = .ok (.aload_n 0, 1) := dk_42 (dk_at dksX3_isAt_0 8 rfl rfl)
theorem dX3_isAt_9 : decode cX3_isAt 9 = .ok (.getfield 25, 3) := dk_180 0 25 (dk_at dksX3_isAt_0 9 rfl rfl)
theorem dX3_isAt_12 : decode cX3_isAt 12 = .ok (.bipush 10, 2) := dk_16 10 (dk_at dksX3_isAt_0 12 rfl rfl)
theorem dX3_isAt_14 : decode cX3_isAt 14 = .ok (.irem, 1) := dk_112 (dk_at dksX3_isAt_0 14 rfl rfl)
theorem dX3_isAt_15 : decode cX3_isAt 15 = .ok (.iload_n 2, 1) := dk_28 (dk_at dksX3_isAt_0 15 rfl rfl)
theorem dX3_isAt_16 : decode cX3_isAt 16 = .ok (.iconst 3, 1) := dk_6 (dk_at dksX3_isAt_0 16 rfl rfl)
theorem dX3_isAt_17 : decode cX3_isAt 17 = .ok (.irem, 1) := dk_112 (dk_at dksX3_isAt_0 17 rfl rfl)
theorem dX3_isAt_18 : decode cX3_isAt 18 = .ok (.iadd, 1) := dk_96 (dk_at dksX3_isAt_0 18 rfl rfl)
theorem dX3_isAt_19 : decode cX3_isAt 19 = .ok (.iconst 1, 1) := dk_4 (dk_at dksX3_isAt_0 19 rfl rfl)
theorem dX3_isAt_20 : decode cX3_isAt 20 = .ok (.isub, 1) := dk_100 (dk_at dksX3_isAt_0 20 rfl rfl)
theorem dX3_isAt_21 : decode cX3_isAt 21 = .ok (.istore_n 3, 1) := dk_62 (dk_at dksX3_isAt_0 21 rfl rfl)
theorem dX3_isAt_22 : decode cX3_isAt 22 = .ok (.aload_n 0, 1) := dk_42 (dk_at dksX3_isAt_0 22 rfl rfl)
theorem dX3_isAt_23 : decode cX3_isAt 23 = .ok (.getfield 25, 3) := dk_180 0 25 (dk_at dksX3_isAt_1 0 rfl rfl)
theorem dX3_isAt_26 : decode cX3_isAt 26 = .ok (.bipush 10, 2) := dk_16 10 (dk_at dksX3_isAt_1 3 rfl rfl)
theorem dX3_isAt_28 : decode cX3_isAt 28 = .ok (.idiv, 1) := dk_108 (dk_at dksX3_isAt_1 5 rfl rfl)
theorem dX3_isAt_29 : decode cX3_isAt 29 = .ok (.iload_n 2, 1) := dk_28 (dk_at dksX3_isAt_1 6 rfl rfl)
theorem dX3_isAt_30 : decode cX3_isAt 30 = .ok (.iconst 3, 1) := dk_6 (dk_at dksX3_isAt_1 7 rfl rfl)
theorem dX3_isAt_31 : decode cX3_isAt 31 = .ok (.idiv, 1) := dk_108 (dk_at dksX3_isAt_1 8 rfl rfl)
theorem dX3_isAt_32 : decode cX3_isAt 32 = .ok (.iadd, 1) := dk_96 (dk_at dksX3_isAt_1 9 rfl rfl)
theorem dX3_isAt_33 : decode cX3_isAt 33 = .ok (.iconst 1, 1) := dk_4 (dk_at dksX3_isAt_1 10 rfl rfl)
theorem dX3_isAt_34 : decode cX3_isAt 34 = .ok (.isub, 1) := dk_100 (dk_at dksX3_isAt_1 11 rfl rfl)
theorem dX3_isAt_35 : decode cX3_isAt 35 = .ok (.istore 4, 2) := dk_54 4 (dk_at dksX3_isAt_1 12 rfl rfl)
theorem dX3_isAt_37 : decode cX3_isAt 37 = .ok (.iload_n 2, 1) := dk_28 (dk_at dksX3_isAt_1 14 rfl rfl)
theorem dX3_isAt_38 : decode cX3_isAt 38 = .ok (.iconst 4, 1) := dk_7 (dk_at dksX3_isAt_1 15 rfl rfl)
theorem dX3_isAt_39 : decode cX3_isAt 39 = .ok (.if_icmp .eq 68, 3) := dk_159 0 68 (dk_at dksX3_isAt_1 16 rfl rfl)
theorem dX3_isAt_42 : decode cX3_isAt 42 = .ok (.aload_n 0, 1) := dk_42 (dk_at dksX3_isAt_1 19 rfl rfl)
theorem dX3_isAt_43 : decode cX3_isAt 43 = .ok (.getfield 12, 3) := dk_180 0 12 (dk_at dksX3_isAt_1 20 rfl rfl)
theorem dX3_isAt_46 : decode cX3_isAt 46 = .ok (.iload_n 3, 1) := dk_29 (dk_at dksX3_isAt_1 23 rfl rfl)
theorem dX3_isAt_47 : decode cX3_isAt 47 = .ok (.iload 4, 2) := dk_21 4 (dk_at dksX3_isAt_2 0 rfl rfl)
theorem dX3_isAt_49 : decode cX3_isAt 49 = .ok (.invokevirtual 62, 3) := dk_182 0 62 (dk_at dksX3_isAt_2 2 rfl rfl)
theorem dX3_isAt_52 : decode cX3_isAt 52 = .ok (.ifCond .eq 55, 3) := dk_153 0 55 (dk_at dksX3_isAt_2 5 rfl rfl)
theorem dX3_isAt_55 : decode cX3_isAt 55 = .ok (.aload_n 0, 1) := dk_42 (dk_at dksX3_isAt_2 8 rfl rfl)
theorem dX3_isAt_56 : decode cX3_isAt 56 = .ok (.iload_n 1, 1) := dk_27 (dk_at dksX3_isAt_2 9 rfl rfl)
theorem dX3_isAt_57 : decode cX3_isAt 57 = .ok (.invokevirtual 53, 3) := dk_182 0 53 (dk_at dksX3_isAt_2 10 rfl rfl)
theorem dX3_isAt_60 : decode cX3_isAt 60 = .ok (.bipush 10, 2) := dk_16 10 (dk_at dksX3_isAt_2 13 rfl rfl)
theorem dX3_isAt_62 : decode cX3_isAt 62 = .ok (.iload 4, 2) := dk_21 4 (dk_at dksX3_isAt_2 15 rfl rfl)
theorem dX3_isAt_64 : decode cX3_isAt 64 = .ok (.imul, 1) := dk_104 (dk_at dksX3_isAt_2 17 rfl rfl)
theorem dX3_isAt_65 : decode cX3_isAt 65 = .ok (.iload_n 3, 1) := dk_29 (dk_at dksX3_isAt_2 18 rfl rfl)
theorem dX3_isAt_66 : decode cX3_isAt 66 = .ok (.iadd, 1) := dk_96 (dk_at dksX3_isAt_2 19 rfl rfl)
theorem dX3_isAt_67 : decode cX3_isAt 67 = .ok (.invokevirtual 56, 3) := dk_182 0 56 (dk_at dksX3_isAt_2 20 rfl rfl)
theorem dX3_isAt_70 : decode cX3_isAt 70 = .ok (.ifCond .ne 35, 3) := dk_154 0 35 (dk_at dksX3_isAt_3 0 rfl rfl)
theorem dX3_isAt_73 : decode cX3_isAt 73 = .ok (.aload_n 0, 1) := dk_42 (dk_at dksX3_isAt_3 3 rfl rfl)
theorem dX3_isAt_74 : decode cX3_isAt 74 = .ok (.getfield 12, 3) := dk_180 0 12 (dk_at dksX3_isAt_3 4 rfl rfl)
theorem dX3_isAt_77 : decode cX3_isAt 77 = .ok (.getfield 32, 3) := dk_180 0 32 (dk_at dksX3_isAt_3 7 rfl rfl)
theorem dX3_isAt_80 : decode cX3_isAt 80 = .ok (.iload_n 1, 1) := dk_27 (dk_at dksX3_isAt_3 10 rfl rfl)
theorem dX3_isAt_81 : decode cX3_isAt 81 = .ok (.aaload, 1) := dk_50 (dk_at dksX3_isAt_3 11 rfl rfl)
theorem dX3_isAt_82 : decode cX3_isAt 82 = .ok (.aload_n 0, 1) := dk_42 (dk_at dksX3_isAt_3 12 rfl rfl)
theorem dX3_isAt_83 : decode cX3_isAt 83 = .ok (.getfield 18, 3) := dk_180 0 18 (dk_at dksX3_isAt_3 13 rfl rfl)
theorem dX3_isAt_86 : decode cX3_isAt 86 = .ok (.iload_n 1, 1) := dk_27 (dk_at dksX3_isAt_3 16 rfl rfl)
theorem dX3_isAt_87 : decode cX3_isAt 87 = .ok (.iaload, 1) := dk_46 (dk_at dksX3_isAt_3 17 rfl rfl)
theorem dX3_isAt_88 : decode cX3_isAt 88 = .ok (.iconst 0, 1) := dk_3 (dk_at dksX3_isAt_3 18 rfl rfl)
theorem dX3_isAt_89 : decode cX3_isAt 89 = .ok (.invokevirtual 49, 3) := dk_182 0 49 (dk_at dksX3_isAt_3 19 rfl rfl)
theorem dX3_isAt_92 : decode cX3_isAt 92 = .ok (.bipush 10, 2) := dk_16 10 (dk_at dksX3_isAt_3 22 rfl rfl)
theorem dX3_isAt_94 : decode cX3_isAt 94 = .ok (.iload 4, 2) := dk_21 4 (dk_at dksX3_isAt_4 0 rfl rfl)
theorem dX3_isAt_96 : decode cX3_isAt 96 = .ok (.imul, 1) := dk_104 (dk_at dksX3_isAt_4 2 rfl rfl)
theorem dX3_isAt_97 : decode cX3_isAt 97 = .ok (.iload_n 3, 1) := dk_29 (dk_at dksX3_isAt_4 3 rfl rfl)
theorem dX3_isAt_98 : decode cX3_isAt 98 = .ok (.iadd, 1) := dk_96 (dk_at dksX3_isAt_4 4 rfl rfl)
theorem dX3_isAt_99 : decode cX3_isAt 99 = .ok (.invokevirtual 56, 3) := dk_182 0 56 (dk_at dksX3_isAt_4 5 rfl rfl)
theorem dX3_isAt_102 : decode cX3_isAt 102 = .ok (.ifCond .eq 5, 3) := dk_153 0 5 (dk_at dksX3_isAt_4 8 rfl rfl)
theorem dX3_isAt_105 : decode cX3_isAt 105 = .ok (.iconst 1, 1) := dk_4 (dk_at dksX3_isAt_4 11 rfl rfl)
theorem dX3_isAt_106 : decode cX3_isAt 106 = .ok (.ireturn, 1) := dk_172 (dk_at dksX3_isAt_4 12 rfl rfl)
theorem dX3_isAt_107 : decode cX3_isAt 107 = .ok (.iinc 2 1, 3) := dk_132 2 1 (dk_at dksX3_isAt_4 13 rfl rfl)
theorem dX3_isAt_110 : decode cX3_isAt 110 = .ok (.goto (-108), 3) := dk_167 255 148 (dk_at dksX3_isAt_4 16 rfl rfl)
theorem dX3_isAt_113 : decode cX3_isAt 113 = .ok (.iconst 0, 1) := dk_3 (dk_at dksX3_isAt_4 19 rfl rfl)
theorem dX3_isAt_114 : decode cX3_isAt 114 = .ok (.ireturn, 1) := dk_172 (dk_at dksX3_isAt_4 20 rfl rfl)
theorem dn_X3_isAt : yX3_isAt.cls ≠ "java/lang/invoke/MethodHandle" ∧ yX3_isAt.cls ≠ "java/lang/invoke/VarHandle" ∧ (parseMethodDescriptor yX3_isAt.desc).map (fun d => d.parameters.length) = some 1 := by decide +kernel
noncomputable def M_X3_isAt (t : Nat) (p1 : Int32) : Mo Bool := Mo.bind (chk [2] t) (fun _ => Mo.loop (S := Int32) (fun s1 => if 9 ≤ s1 then Mo.pure (Sum.inr false) else Mo.bind (gI [2] t 3) (fun v4 => Mo.lv (((v4 - v4 / 10 * 10) + (s1 - s1 / 3 * 3)) - 1) (fun v5 => Mo.bind (gI [2] t 3) (fun v6 => Mo.lv (((v6 / 10) + (s1 / 3)) - 1) (fun v7 => if s1 = 4 then Mo.lv (s1 + 1) (fun v8 => Mo.pure (Sum.inl v8)) else Mo.bind (gR [2] t 0) (fun v9 => Mo.bind (M_X4_isCell v9 v5 v7) (fun v10 => cond v10 (Mo.bind (M_X3_leaf t p1) (fun v12 => Mo.bind (M_X12_has v12 ((10 * v7) + v5)) (fun v13 => cond v13 (Mo.pure (Sum.inr true)) (Mo.bind (gR [2] t 0) (fun v14 => Mo.bind (gR [3] v14 2) (fun v15 => Mo.bind (aldR 5 v15 p1) (fun v16 => Mo.bind (gR [2] t 1) (fun v17 => Mo.bind (aldI 0 v17 p1) (fun v18 => Mo.bind (M_X11_leaf_2 v16 v18 0) (fun v19 => Mo.bind (M_X12_has v19 ((10 * v7) + v5)) (fun v20 => cond v20 (Mo.pure (Sum.inr true)) (Mo.lv (s1 + 1) (fun v21 => Mo.pure (Sum.inl v21)))))))))))))) (Mo.lv (s1 + 1) (fun v11 => Mo.pure (Sum.inl v11)))))))))) 0)
set_option maxHeartbeats 4000000 in
theorem ct_X3_isAt (G : gG) (t : Nat) (p1 : Int32) : gCt G yX3_isAt cX3_isAt 5 (some .boolean) 2 44 [.ref t, .int p1] (M_X3_isAt t p1) (fun x : Bool => some (.int (b2i x))) := by
  refine gCt.of (by decide) (Nat.le_of_ble_eq_true rfl) (fun K r hG X hd ho => ?_)
  subst hG
  have X : gX K cX3_isAt 5 "BitingDoors$Walker" "isAt" (some .boolean) 2 44 := X
  have hle : gLe (kh1 K) (kh1 K) := gLe.rf
  show V K 5 (kh0 K) 0 [(0, .ref t), (1, .int p1)] []
  generalize kh0 K = h at hd ⊢
  unfold M_X3_isAt at hd
  obtain ⟨-, hd⟩ := chk_some hd
  refine v_iconst (v := 0) X dX3_isAt_0 (by decide) ?_
  refine v_istore_n (lv2 := [(2, .int 0), (0, .ref t), (1, .int p1)]) X dX3_isAt_1 2 rfl (by decide) rfl ?_
  refine v_loc [1, 2, 0] rfl ?_
  refine loop_ind hd (fun (s1 : Int32) h => V K 5 h 2 [(0, .ref t), (1, .int p1), (2, .int s1)] []) (fun s1 h x h2 hd hle0 ih2 ho3 => ?_)
  have hle := hle0.tr hle
  refine v_iload_n X dX3_isAt_2 2 2 rfl rfl ?_
  refine v_bipush (v := 9) X dX3_isAt_3 (by decide) ?_
  refine v_icmp_ge (tgt := 113) X dX3_isAt_5 (by decide) (fun q => ?_) (fun q => ?_)
  · have hd := ite_t q hd
    refine v_iconst (v := 0) X dX3_isAt_113 (by decide) ?_
    have hd := lp_out hd ho3
    exact v_zret X hd rfl ho dX3_isAt_114
  · have hd := ite_f q hd
    refine v_aload_n X dX3_isAt_8 0 0 rfl rfl ?_
    refine v_getI X hd fl_X3_25 dX3_isAt_9 (fun v4 hd => ?_)
    refine v_bipush (v := 10) X dX3_isAt_12 (by decide) ?_
    refine v_irem X dX3_isAt_14 (by decide) ?_
    refine v_iload_n X dX3_isAt_15 2 2 rfl rfl ?_
    refine v_iconst (v := 3) X dX3_isAt_16 (by decide) ?_
    refine v_irem X dX3_isAt_17 (by decide) ?_
    refine v_iadd X dX3_isAt_18 ?_
    refine v_iconst (v := 1) X dX3_isAt_19 (by decide) ?_
    refine v_isub X dX3_isAt_20 ?_
    refine v_lvI hd (fun v5 hd => ?_)
    refine v_istore_n (lv2 := [(3, .int v5), (0, .ref t), (1, .int p1), (2, .int s1)]) X dX3_isAt_21 3 rfl (by decide) rfl ?_
    refine v_aload_n X dX3_isAt_22 1 0 rfl rfl ?_
    refine v_getI X hd fl_X3_25 dX3_isAt_23 (fun v6 hd => ?_)
    refine v_bipush (v := 10) X dX3_isAt_26 (by decide) ?_
    refine v_idiv X dX3_isAt_28 (by decide) ?_
    refine v_iload_n X dX3_isAt_29 3 2 rfl rfl ?_
    refine v_iconst (v := 3) X dX3_isAt_30 (by decide) ?_
    refine v_idiv X dX3_isAt_31 (by decide) ?_
    refine v_iadd X dX3_isAt_32 ?_
    refine v_iconst (v := 1) X dX3_isAt_33 (by decide) ?_
    refine v_isub X dX3_isAt_34 ?_
    refine v_lvI hd (fun v7 hd => ?_)
    refine v_istore (lv2 := [(4, .int v7), (3, .int v5), (0, .ref t), (1, .int p1), (2, .int s1)]) X dX3_isAt_35 (by decide) rfl ?_
    refine v_iload_n X dX3_isAt_37 4 2 rfl rfl ?_
    refine v_iconst (v := 4) X dX3_isAt_38 (by decide) ?_
    refine v_icmp_eq (tgt := 107) X dX3_isAt_39 (by decide) (fun q => ?_) (fun q => ?_)
    · have hd := ite_t q hd
      refine v_iincL (lv2 := fun v8 => [(2, .int v8), (4, .int v7), (3, .int v5), (0, .ref t), (1, .int p1)]) X hd dX3_isAt_107 4 rfl (by decide : Int32.ofInt 1 = 1) (by decide) (fun v8 => rfl) (fun v8 hd => ?_)
      refine v_goto (tgt := 2) X dX3_isAt_110 (by decide) ?_
      exact v_loc [3, 4, 0] rfl (lp_in (P := fun (s1 : Int32) h => V K 5 h 2 [(0, .ref t), (1, .int p1), (2, .int s1)] []) hd ih2)
    · have hd := ite_f q hd
      refine v_aload_n X dX3_isAt_42 2 0 rfl rfl ?_
      refine v_getR X hd fl_X3_12 dX3_isAt_43 (fun v9 hd => ?_)
      refine v_iload_n X dX3_isAt_46 1 3 rfl rfl ?_
      refine v_iload X dX3_isAt_47 0 rfl ?_
      refine v_callV X hd hle (ct_X4_isCell _ v9 v5 v7) gCl_X4 (lw_V q1309 q827 q828 q114 q829) ⟨rfl, dn_X4_isCell⟩ rfl ⟨by decide, by decide⟩ rfl (Nat.le_of_ble_eq_true rfl) dX3_isAt_49 (fun v10 h hd => ?_)
      show V K 5 h 52 [(4, .int v7), (3, .int v5), (0, .ref t), (1, .int p1), (2, .int s1)] [.int (b2i v10)]
      refine v_ifZ_eq (tgt := 107) X dX3_isAt_52 (by decide) (fun q => ?_) (fun q => ?_)
      · have hd := cnd_f q hd
        refine v_iincL (lv2 := fun v11 => [(2, .int v11), (4, .int v7), (3, .int v5), (0, .ref t), (1, .int p1)]) X hd dX3_isAt_107 4 rfl (by decide : Int32.ofInt 1 = 1) (by decide) (fun v11 => rfl) (fun v11 hd => ?_)
        refine v_goto (tgt := 2) X dX3_isAt_110 (by decide) ?_
        exact v_loc [3, 4, 0] rfl (lp_in (P := fun (s1 : Int32) h => V K 5 h 2 [(0, .ref t), (1, .int p1), (2, .int s1)] []) hd ih2)
      · have hd := cnd_t q hd
        refine v_aload_n X dX3_isAt_55 2 0 rfl rfl ?_
        refine v_iload_n X dX3_isAt_56 3 1 rfl rfl ?_
        refine v_callV X hd hle (ct_X3_leaf _ t p1) gCl_X3 (lw_V q1283 q1284 q1285 q113 q1286) ⟨rfl, dn_X3_leaf⟩ rfl ⟨by decide, by decide⟩ rfl (Nat.le_of_ble_eq_true rfl) dX3_isAt_57 (fun v12 h hd => ?_)
        show V K 5 h 60 [(4, .int v7), (3, .int v5), (0, .ref t), (1, .int p1), (2, .int s1)] [.ref v12]
        refine v_bipush (v := 10) X dX3_isAt_60 (by decide) ?_
        refine v_iload X dX3_isAt_62 0 rfl ?_
        refine v_imul X dX3_isAt_64 ?_
        refine v_iload_n X dX3_isAt_65 1 3 rfl rfl ?_
        refine v_iadd X dX3_isAt_66 ?_
        refine v_callV X hd hle (ct_X12_has _ v12 ((10 * v7) + v5)) gCl_X12 (lw_V q1288 q965 q966 q126 q967) ⟨rfl, dn_X12_has⟩ rfl ⟨by decide, by decide⟩ rfl (Nat.le_of_ble_eq_true rfl) dX3_isAt_67 (fun v13 h hd => ?_)
        show V K 5 h 70 [(4, .int v7), (3, .int v5), (0, .ref t), (1, .int p1), (2, .int s1)] [.int (b2i v13)]
        refine v_ifZ_ne (tgt := 105) X dX3_isAt_70 (by decide) (fun q => ?_) (fun q => ?_)
        · have hd := cnd_t q hd
          refine v_iconst (v := 1) X dX3_isAt_105 (by decide) ?_
          have hd := lp_out hd ho3
          exact v_zret X hd rfl ho dX3_isAt_106
        · have hd := cnd_f q hd
          refine v_aload_n X dX3_isAt_73 2 0 rfl rfl ?_
          refine v_getR X hd fl_X3_12 dX3_isAt_74 (fun v14 hd => ?_)
          refine v_getR X hd fl_X3_32 dX3_isAt_77 (fun v15 hd => ?_)
          refine v_iload_n X dX3_isAt_80 3 1 rfl rfl ?_
          refine v_aldR X hd 5 rfl (by decide) (by decide) dX3_isAt_81 (fun v16 hd => ?_)
          refine v_aload_n X dX3_isAt_82 2 0 rfl rfl ?_
          refine v_getR X hd fl_X3_18 dX3_isAt_83 (fun v17 hd => ?_)
          refine v_iload_n X dX3_isAt_86 3 1 rfl rfl ?_
          refine v_iald X hd dX3_isAt_87 (fun v18 hd => ?_)
          refine v_iconst (v := 0) X dX3_isAt_88 (by decide) ?_
          refine v_callV X hd hle (ct_X11_leaf_2 _ v16 v18 0) gCl_X11 (lw_V q1287 q979 q980 q125 q981) ⟨rfl, dn_X11_leaf_2⟩ rfl ⟨by decide, by decide⟩ rfl (Nat.le_of_ble_eq_true rfl) dX3_isAt_89 (fun v19 h hd => ?_)
          show V K 5 h 92 [(4, .int v7), (3, .int v5), (0, .ref t), (1, .int p1), (2, .int s1)] [.ref v19]
          refine v_bipush (v := 10) X dX3_isAt_92 (by decide) ?_
          refine v_iload X dX3_isAt_94 0 rfl ?_
          refine v_imul X dX3_isAt_96 ?_
          refine v_iload_n X dX3_isAt_97 1 3 rfl rfl ?_
          refine v_iadd X dX3_isAt_98 ?_
          refine v_callV X hd hle (ct_X12_has _ v19 ((10 * v7) + v5)) gCl_X12 (lw_V q1288 q965 q966 q126 q967) ⟨rfl, dn_X12_has⟩ rfl ⟨by decide, by decide⟩ rfl (Nat.le_of_ble_eq_true rfl) dX3_isAt_99 (fun v20 h hd => ?_)
          show V K 5 h 102 [(4, .int v7), (3, .int v5), (0, .ref t), (1, .int p1), (2, .int s1)] [.int (b2i v20)]
          refine v_ifZ_eq (tgt := 107) X dX3_isAt_102 (by decide) (fun q => ?_) (fun q => ?_)
          · have hd := cnd_f q hd
            refine v_iincL (lv2 := fun v21 => [(2, .int v21), (4, .int v7), (3, .int v5), (0, .ref t), (1, .int p1)]) X hd dX3_isAt_107 4 rfl (by decide : Int32.ofInt 1 = 1) (by decide) (fun v21 => rfl) (fun v21 hd => ?_)
            refine v_goto (tgt := 2) X dX3_isAt_110 (by decide) ?_
            exact v_loc [3, 4, 0] rfl (lp_in (P := fun (s1 : Int32) h => V K 5 h 2 [(0, .ref t), (1, .int p1), (2, .int s1)] []) hd ih2)
          · have hd := cnd_t q hd
            refine v_iconst (v := 1) X dX3_isAt_105 (by decide) ?_
            have hd := lp_out hd ho3
            exact v_zret X hd rfl ho dX3_isAt_106
def dkwX1_isHanging_0 : List UInt8 := [26, 3, 6, 184, 0, 248, 172]
abbrev dktX1_isHanging_0 : List UInt8 := dkwX1_isHanging_0 ++ []
theorem dksX1_isHanging_0 : cX1_isHanging.data.toList.drop 0 = dktX1_isHanging_0 := by decide +kernel
theorem dX1_isHanging_0 : decode cX1_isHanging 0 = .ok (.iload_n 0, 1) := dk_26 (dk_at dksX1_isHanging_0 0 rfl rfl)
theorem dX1_isHanging_1 : decode cX1_isHanging 1 = .ok (.iconst 0, 1) := dk_3 (dk_at dksX1_isHanging_0 1 rfl rfl)
theorem dX1_isHanging_2 : decode cX1_isHanging 2 = .ok (.iconst 3, 1) := dk_6 (dk_at dksX1_isHanging_0 2 rfl rfl)
theorem dX1_isHanging_3 : decode cX1_isHanging 3 = .ok (.invokestatic 248, 3) := dk_184 0 248 (dk_at dksX1_isHanging_0 3 rfl rfl)
theorem dX1_isHanging_6 : decode cX1_isHanging 6 = .ok (.ireturn, 1) := dk_172 (dk_at dksX1_isHanging_0 6 rfl rfl)
theorem dn_X1_isHanging : yX1_isHanging.cls ≠ "java/lang/invoke/MethodHandle" ∧ yX1_isHanging.cls ≠ "java/lang/invoke/VarHandle" ∧ (parseMethodDescriptor yX1_isHanging.desc).map (fun d => d.parameters.length) = some 1 := by decide +kernel
noncomputable def M_X1_isHanging (p1 : Int32) : Mo Bool := Mo.bind (M_X1_isIn p1 0 3) (fun v1 => Mo.pure v1)
set_option maxHeartbeats 4000000 in
theorem ct_X1_isHanging (G : gG) (p1 : Int32) : gCt G yX1_isHanging cX1_isHanging 1 (some .boolean) 1 22 [.int p1] (M_X1_isHanging p1) (fun x : Bool => some (.int (b2i x))) := by
  refine gCt.of (by decide) (Nat.le_of_ble_eq_true rfl) (fun K r hG X hd ho => ?_)
  subst hG
  have X : gX K cX1_isHanging 1 "BitingDoors" "isHanging" (some .boolean) 1 22 := X
  have hle : gLe (kh1 K) (kh1 K) := gLe.rf
  show V K 1 (kh0 K) 0 [(0, .int p1)] []
  generalize kh0 K = h at hd ⊢
  unfold M_X1_isHanging at hd
  refine v_iload_n X dX1_isHanging_0 0 0 rfl rfl ?_
  refine v_iconst (v := 0) X dX1_isHanging_1 (by decide) ?_
  refine v_iconst (v := 3) X dX1_isHanging_2 (by decide) ?_
  refine v_callS X hd hle (ct_X1_isIn _ p1 0 3) (lw_S q1119 q688 q109 q689) dn_X1_isIn rfl ⟨by decide, by decide⟩ rfl (Nat.le_of_ble_eq_true rfl) dX1_isHanging_3 (fun v1 h hd => ?_)
  show V K 1 h 6 [(0, .int p1)] [.int (b2i v1)]
  exact v_zret X hd rfl ho dX1_isHanging_6
def dkwX1_leaf_1 : List UInt8 := [42, 27, 182, 1, 15, 28, 29, 182, 1, 45, 21, 4, 182, 1, 49, 167, 0, 4, 2, 172]
abbrev dktX1_leaf_1 : List UInt8 := dkwX1_leaf_1 ++ []
def dkwX1_leaf_0 : List UInt8 := [42, 27, 182, 1, 7, 153, 0, 37, 28, 184, 1, 42, 153, 0, 30, 29, 3, 5, 184, 0, 248, 153, 0, 21]
abbrev dktX1_leaf_0 : List UInt8 := dkwX1_leaf_0 ++ dktX1_leaf_1
theorem dksX1_leaf_0 : cX1_leaf.data.toList.drop 0 = dktX1_leaf_0 := by decide +kernel
theorem dksX1_leaf_1 : cX1_leaf.data.toList.drop 24 = dktX1_leaf_1 := dk_seg dksX1_leaf_0 24 rfl rfl
theorem dX1_leaf_0 : decode cX1_leaf 0 = .ok (.aload_n 0, 1) := dk_42 (dk_at dksX1_leaf_0 0 rfl rfl)
theorem dX1_leaf_1 : decode cX1_leaf 1 = .ok (.iload_n 1, 1) := dk_27 (dk_at dksX1_leaf_0 1 rfl rfl)
theorem dX1_leaf_2 : decode cX1_leaf 2 = .ok (.invokevirtual 263, 3) := dk_182 1 7 (dk_at dksX1_leaf_0 2 rfl rfl)
theorem dX1_leaf_5 : decode cX1_leaf 5 = .ok (.ifCond .eq 37, 3) := dk_153 0 37 (dk_at dksX1_leaf_0 5 rfl rfl)
theorem dX1_leaf_8 : decode cX1_leaf 8 = .ok (.iload_n 2, 1) := dk_28 (dk_at dksX1_leaf_0 8 rfl rfl)
theorem dX1_leaf_9 : decode cX1_leaf 9 = .ok (.invokestatic 298, 3) := dk_184 1 42 (dk_at dksX1_leaf_0 9 rfl rfl)
theorem dX1_leaf_12 : decode cX1_leaf 12 = .ok (.ifCond .eq 30, 3) := dk_153 0 30 (dk_at dksX1_leaf_0 12 rfl rfl)
theorem dX1_leaf_15 : decode cX1_leaf 15 = .ok (.iload_n 3, 1) := dk_29 (dk_at dksX1_leaf_0 15 rfl rfl)
theorem dX1_leaf_16 : decode cX1_leaf 16 = .ok (.iconst 0, 1) := dk_3 (dk_at dksX1_leaf_0 16 rfl rfl)
theorem dX1_leaf_17 : decode cX1_leaf 17 = .ok (.iconst 2, 1) := dk_5 (dk_at dksX1_leaf_0 17 rfl rfl)
theorem dX1_leaf_18 : decode cX1_leaf 18 = .ok (.invokestatic 248, 3) := dk_184 0 248 (dk_at dksX1_leaf_0 18 rfl rfl)
theorem dX1_leaf_21 : decode cX1_leaf 21 = .ok (.ifCond .eq 21, 3) := dk_153 0 21 (dk_at dksX1_leaf_0 21 rfl rfl)
theorem dX1_leaf_24 : decode cX1_leaf 24 = .ok (.aload_n 0, 1) := dk_42 (dk_at dksX1_leaf_1 0 rfl rfl)
theorem dX1_leaf_25 : decode cX1_leaf 25 = .ok (.iload_n 1, 1) := dk_27 (dk_at dksX1_leaf_1 1 rfl rfl)
theorem dX1_leaf_26 : decode cX1_leaf 26 = .ok (.invokevirtual 271, 3) := dk_182 1 15 (dk_at dksX1_leaf_1 2 rfl rfl)
theorem dX1_leaf_29 : decode cX1_leaf 29 = .ok (.iload_n 2, 1) := dk_28 (dk_at dksX1_leaf_1 5 rfl rfl)
theorem dX1_leaf_30 : decode cX1_leaf 30 = .ok (.iload_n 3, 1) := dk_29 (dk_at dksX1_leaf_1 6 rfl rfl)
theorem dX1_leaf_31 : decode cX1_leaf 31 = .ok (.invokevirtual 301, 3) := dk_182 1 45 (dk_at dksX1_leaf_1 7 rfl rfl)
theorem dX1_leaf_34 : decode cX1_leaf 34 = .ok (.iload 4, 2) := dk_21 4 (dk_at dksX1_leaf_1 10 rfl rfl)
theorem dX1_leaf_36 : decode cX1_leaf 36 = .ok (.invokevirtual 305, 3) := dk_182 1 49 (dk_at dksX1_leaf_1 12 rfl rfl)
theorem dX1_leaf_39 : decode cX1_leaf 39 = .ok (.goto 4, 3) := dk_167 0 4 (dk_at dksX1_leaf_1 15 rfl rfl)
theorem dX1_leaf_42 : decode cX1_leaf 42 = .ok (.iconst (-1), 1) := dk_2 (dk_at dksX1_leaf_1 18 rfl rfl)
theorem dX1_leaf_43 : decode cX1_leaf 43 = .ok (.ireturn, 1) := dk_172 (dk_at dksX1_leaf_1 19 rfl rfl)
theorem dn_X1_leaf : yX1_leaf.cls ≠ "java/lang/invoke/MethodHandle" ∧ yX1_leaf.cls ≠ "java/lang/invoke/VarHandle" ∧ (parseMethodDescriptor yX1_leaf.desc).map (fun d => d.parameters.length) = some 4 := by decide +kernel
noncomputable def M_X1_leaf (t : Nat) (p1 : Int32) (p2 : Int32) (p3 : Int32) (p4 : Int32) : Mo Int32 := Mo.bind (chk [0] t) (fun _ => Mo.bind (M_X1_isDoor t p1) (fun v1 => Mo.bind ((cond v1 (Mo.bind (M_X1_isHanging p2) (fun v3 => cond v3 (Mo.bind (M_X1_isIn p3 0 2) (fun v4 => cond v4 (Mo.bind (M_X1_at t p1) (fun v5 => Mo.bind (M_X11_leaf_2 v5 p2 p3) (fun v6 => Mo.bind (M_X12_get v6 p4) (fun v7 => Mo.pure v7)))) (Mo.pure (-1)))) (Mo.pure (-1)))) (Mo.pure (-1)) : Mo (Int32))) (fun u2 => Mo.pure u2)))
set_option maxHeartbeats 4000000 in
theorem ct_X1_leaf (G : gG) (t : Nat) (p1 : Int32) (p2 : Int32) (p3 : Int32) (p4 : Int32) : gCt G yX1_leaf cX1_leaf 5 (some .int) 2 43 [.ref t, .int p1, .int p2, .int p3, .int p4] (M_X1_leaf t p1 p2 p3 p4) (fun x : Int32 => some (.int x)) := by
  refine gCt.of (by decide) (Nat.le_of_ble_eq_true rfl) (fun K r hG X hd ho => ?_)
  subst hG
  have X : gX K cX1_leaf 5 "BitingDoors" "leaf" (some .int) 2 43 := X
  have hle : gLe (kh1 K) (kh1 K) := gLe.rf
  show V K 5 (kh0 K) 0 [(0, .ref t), (1, .int p1), (2, .int p2), (3, .int p3), (4, .int p4)] []
  generalize kh0 K = h at hd ⊢
  unfold M_X1_leaf at hd
  obtain ⟨-, hd⟩ := chk_some hd
  refine v_aload_n X dX1_leaf_0 0 0 rfl rfl ?_
  refine v_iload_n X dX1_leaf_1 1 1 rfl rfl ?_
  refine v_callV X hd hle (ct_X1_isDoor _ t p1) gCl_X1 (lw_V q1115 q1117 qs12 q109 q1118) ⟨rfl, dn_X1_isDoor⟩ rfl ⟨by decide, by decide⟩ rfl (Nat.le_of_ble_eq_true rfl) dX1_leaf_2 (fun v1 h hd => ?_)
  show V K 5 h 5 [(0, .ref t), (1, .int p1), (2, .int p2), (3, .int p3), (4, .int p4)] [.int (b2i v1)]
  obtain ⟨u2, h1, hd, hd2⟩ := Mo.bind_some hd
  have KJ : V K 5 h1 43 [] [.int u2] := by
    clear hd
    have hd := hd2
    exact v_iret X hd ho dX1_leaf_43
  have hle := (Mo.le hd2).tr hle
  clear hd2
  refine v_ifZ_eq (tgt := 42) X dX1_leaf_5 (by decide) (fun q => ?_) (fun q => ?_)
  · have hd := cnd_f q hd
    refine v_iconst (v := (-1)) X dX1_leaf_42 (by decide) ?_
    exact v_loc [] rfl (v_at (P := fun (u2 : Int32) h => V K 5 h 43 [] [.int u2]) hd KJ)
  · have hd := cnd_t q hd
    refine v_iload_n X dX1_leaf_8 2 2 rfl rfl ?_
    refine v_callS X hd hle (ct_X1_isHanging _ p2) (lw_S q1120 q1121 q109 q1122) dn_X1_isHanging rfl ⟨by decide, by decide⟩ rfl (Nat.le_of_ble_eq_true rfl) dX1_leaf_9 (fun v3 h hd => ?_)
    show V K 5 h 12 [(0, .ref t), (1, .int p1), (2, .int p2), (3, .int p3), (4, .int p4)] [.int (b2i v3)]
    refine v_ifZ_eq (tgt := 42) X dX1_leaf_12 (by decide) (fun q => ?_) (fun q => ?_)
    · have hd := cnd_f q hd
      refine v_iconst (v := (-1)) X dX1_leaf_42 (by decide) ?_
      exact v_loc [] rfl (v_at (P := fun (u2 : Int32) h => V K 5 h 43 [] [.int u2]) hd KJ)
    · have hd := cnd_t q hd
      refine v_iload_n X dX1_leaf_15 3 3 rfl rfl ?_
      refine v_iconst (v := 0) X dX1_leaf_16 (by decide) ?_
      refine v_iconst (v := 2) X dX1_leaf_17 (by decide) ?_
      refine v_callS X hd hle (ct_X1_isIn _ p3 0 2) (lw_S q1119 q688 q109 q689) dn_X1_isIn rfl ⟨by decide, by decide⟩ rfl (Nat.le_of_ble_eq_true rfl) dX1_leaf_18 (fun v4 h hd => ?_)
      show V K 5 h 21 [(0, .ref t), (1, .int p1), (2, .int p2), (3, .int p3), (4, .int p4)] [.int (b2i v4)]
      refine v_ifZ_eq (tgt := 42) X dX1_leaf_21 (by decide) (fun q => ?_) (fun q => ?_)
      · have hd := cnd_f q hd
        refine v_iconst (v := (-1)) X dX1_leaf_42 (by decide) ?_
        exact v_loc [] rfl (v_at (P := fun (u2 : Int32) h => V K 5 h 43 [] [.int u2]) hd KJ)
      · have hd := cnd_t q hd
        refine v_aload_n X dX1_leaf_24 0 0 rfl rfl ?_
        refine v_iload_n X dX1_leaf_25 1 1 rfl rfl ?_
        refine v_callV X hd hle (ct_X1_at _ t p1) gCl_X1 (lw_V q1123 q1125 qs13 q109 q1126) ⟨rfl, dn_X1_at⟩ rfl ⟨by decide, by decide⟩ rfl (Nat.le_of_ble_eq_true rfl) dX1_leaf_26 (fun v5 h hd => ?_)
        show V K 5 h 29 [(0, .ref t), (1, .int p1), (2, .int p2), (3, .int p3), (4, .int p4)] [.ref v5]
        refine v_iload_n X dX1_leaf_29 2 2 rfl rfl ?_
        refine v_iload_n X dX1_leaf_30 3 3 rfl rfl ?_
        refine v_callV X hd hle (ct_X11_leaf_2 _ v5 p2 p3) gCl_X11 (lw_V q1127 q979 q980 q125 q981) ⟨rfl, dn_X11_leaf_2⟩ rfl ⟨by decide, by decide⟩ rfl (Nat.le_of_ble_eq_true rfl) dX1_leaf_31 (fun v6 h hd => ?_)
        show V K 5 h 34 [(0, .ref t), (1, .int p1), (2, .int p2), (3, .int p3), (4, .int p4)] [.ref v6]
        refine v_iload X dX1_leaf_34 4 rfl ?_
        refine v_callV X hd hle (ct_X12_get _ v6 p4) gCl_X12 (lw_V q1128 q987 q988 q126 q989) ⟨rfl, dn_X12_get⟩ rfl ⟨by decide, by decide⟩ rfl (Nat.le_of_ble_eq_true rfl) dX1_leaf_36 (fun v7 h hd => ?_)
        show V K 5 h 39 [(0, .ref t), (1, .int p1), (2, .int p2), (3, .int p3), (4, .int p4)] [.int v7]
        refine v_goto (tgt := 43) X dX1_leaf_39 (by decide) ?_
        exact v_loc [] rfl (v_at (P := fun (u2 : Int32) h => V K 5 h 43 [] [.int u2]) hd KJ)
def dkwX1_fewest_2_7 : List UInt8 := [167, 0, 4, 4, 96, 182, 1, 115, 132, 4, 1, 167, 255, 152, 177]
abbrev dktX1_fewest_2_7 : List UInt8 := dkwX1_fewest_2_7 ++ []
def dkwX1_fewest_2_6 : List UInt8 := [153, 0, 7, 3, 167, 0, 11, 42, 27, 182, 1, 15, 180, 1, 38, 96, 29, 21, 5, 153, 0, 7, 3]
abbrev dktX1_fewest_2_6 : List UInt8 := dkwX1_fewest_2_6 ++ dktX1_fewest_2_7
def dkwX1_fewest_2_5 : List UInt8 := [180, 1, 30, 27, 46, 160, 0, 7, 4, 167, 0, 4, 3, 54, 5, 42, 27, 4, 96, 28, 21, 5]
abbrev dktX1_fewest_2_5 : List UInt8 := dkwX1_fewest_2_5 ++ dktX1_fewest_2_6
def dkwX1_fewest_2_4 : List UInt8 := [182, 1, 95, 153, 0, 6, 167, 0, 70, 42, 180, 0, 124, 27, 21, 4, 79, 21, 4, 42, 180, 0, 90]
abbrev dktX1_fewest_2_4 : List UInt8 := dkwX1_fewest_2_4 ++ dktX1_fewest_2_5
def dkwX1_fewest_2_3 : List UInt8 := [7, 162, 0, 104, 42, 180, 0, 120, 27, 46, 21, 4, 184, 1, 73, 153, 0, 84, 42, 27, 21, 4, 2]
abbrev dktX1_fewest_2_3 : List UInt8 := dkwX1_fewest_2_3 ++ dktX1_fewest_2_4
def dkwX1_fewest_2_2 : List UInt8 := [181, 1, 86, 42, 180, 0, 124, 3, 42, 180, 0, 127, 3, 16, 10, 184, 1, 89, 177, 3, 54, 4, 21, 4]
abbrev dktX1_fewest_2_2 : List UInt8 := dkwX1_fewest_2_2 ++ dktX1_fewest_2_3
def dkwX1_fewest_2_1 : List UInt8 := [177, 27, 42, 180, 0, 90, 180, 0, 243, 180, 0, 247, 160, 0, 29, 42, 28, 181, 1, 83, 42, 29]
abbrev dktX1_fewest_2_1 : List UInt8 := dkwX1_fewest_2_1 ++ dktX1_fewest_2_2
def dkwX1_fewest_2_0 : List UInt8 := [29, 42, 180, 1, 86, 163, 0, 19, 29, 42, 180, 1, 86, 160, 0, 12, 28, 42, 180, 1, 83, 161, 0, 4]
abbrev dktX1_fewest_2_0 : List UInt8 := dkwX1_fewest_2_0 ++ dktX1_fewest_2_1
theorem dksX1_fewest_2_0 : cX1_fewest_2.data.toList.drop 0 = dktX1_fewest_2_0 := by decide +kernel
theorem dksX1_fewest_2_1 : cX1_fewest_2.data.toList.drop 24 = dktX1_fewest_2_1 := dk_seg dksX1_fewest_2_0 24 rfl rfl
theorem dksX1_fewest_2_2 : cX1_fewest_2.data.toList.drop 46 = dktX1_fewest_2_2 := dk_seg dksX1_fewest_2_1 22 rfl rfl
theorem dksX1_fewest_2_3 : cX1_fewest_2.data.toList.drop 70 = dktX1_fewest_2_3 := dk_seg dksX1_fewest_2_2 24 rfl rfl
theorem dksX1_fewest_2_4 : cX1_fewest_2.data.toList.drop 93 = dktX1_fewest_2_4 := dk_seg dksX1_fewest_2_3 23 rfl rfl
theorem dksX1_fewest_2_5 : cX1_fewest_2.data.toList.drop 116 = dktX1_fewest_2_5 := dk_seg dksX1_fewest_2_4 23 rfl rfl
theorem dksX1_fewest_2_6 : cX1_fewest_2.data.toList.drop 138 = dktX1_fewest_2_6 := dk_seg dksX1_fewest_2_5 22 rfl rfl
theorem dksX1_fewest_2_7 : cX1_fewest_2.data.toList.drop 161 = dktX1_fewest_2_7 := dk_seg dksX1_fewest_2_6 23 rfl rfl
theorem dX1_fewest_2_0 : decode cX1_fewest_2 0 = .ok (.iload_n 3, 1) := dk_29 (dk_at dksX1_fewest_2_0 0 rfl rfl)
theorem dX1_fewest_2_1 : decode cX1_fewest_2 1 = .ok (.aload_n 0, 1) := dk_42 (dk_at dksX1_fewest_2_0 1 rfl rfl)
theorem dX1_fewest_2_2 : decode cX1_fewest_2 2 = .ok (.getfield 342, 3) := dk_180 1 86 (dk_at dksX1_fewest_2_0 2 rfl rfl)
theorem dX1_fewest_2_5 : decode cX1_fewest_2 5 = .ok (.if_icmp .gt 19, 3) := dk_163 0 19 (dk_at dksX1_fewest_2_0 5 rfl rfl)
theorem dX1_fewest_2_8 : decode cX1_fewest_2 8 = .ok (.iload_n 3, 1) := dk_29 (dk_at dksX1_fewest_2_0 8 rfl rfl)
theorem dX1_fewest_2_9 : decode cX1_fewest_2 9 = .ok (.aload_n 0, 1) := dk_42 (dk_at dksX1_fewest_2_0 9 rfl rfl)
theorem dX1_fewest_2_10 : decode cX1_fewest_2 10 = .ok (.getfield 342, 3) := dk_180 1 86 (dk_at dksX1_fewest_2_0 10 rfl rfl)
theorem dX1_fewest_2_13 : decode cX1_fewest_2 13 = .ok (.if_icmp .ne 12, 3) := dk_160 0 12 (dk_at dksX1_fewest_2_0 13 rfl rfl)
theorem dX1_fewest_2_16 : decode cX1_fewest_2 16 = .ok (.iload_n 2, 1) := dk_28 (dk_at dksX1_fewest_2_0 16 rfl rfl)
theorem dX1_fewest_2_17 : decode cX1_fewest_2 17 = .ok (.aload_n 0, 1) := dk_42 (dk_at dksX1_fewest_2_0 17 rfl rfl)
theorem dX1_fewest_2_18 : decode cX1_fewest_2 18 = .ok (.getfield 339, 3) := dk_180 1 83 (dk_at dksX1_fewest_2_0 18 rfl rfl)
theorem dX1_fewest_2_21 : decode cX1_fewest_2 21 = .ok (.if_icmp .lt 4, 3) := dk_161 0 4 (dk_at dksX1_fewest_2_0 21 rfl rfl)
theorem dX1_fewest_2_24 : decode cX1_fewest_2 24 = .ok (.return_, 1) := dk_177 (dk_at dksX1_fewest_2_1 0 rfl rfl)
theorem dX1_fewest_2_25 : decode cX1_fewest_2 25 = .ok (.iload_n 1, 1) := dk_27 (dk_at dksX1_fewest_2_1 1 rfl rfl)
theorem dX1_fewest_2_26 : decode cX1_fewest_2 26 = .ok (.aload_n 0, 1) := dk_42 (dk_at dksX1_fewest_2_1 2 rfl rfl)
theorem dX1_fewest_2_27 : decode cX1_fewest_2 27 = .ok (.getfield 90, 3) := dk_180 0 90 (dk_at dksX1_fewest_2_1 3 rfl rfl)
theorem dX1_fewest_2_30 : decode cX1_fewest_2 30 = .ok (.getfield 243, 3) := dk_180 0 243 (dk_at dksX1_fewest_2_1 6 rfl rfl)
theorem dX1_fewest_2_33 : decode cX1_fewest_2 33 = .ok (.getfield 247, 3) := dk_180 0 247 (dk_at dksX1_fewest_2_1 9 rfl rfl)
theorem dX1_fewest_2_36 : decode cX1_fewest_2 36 = .ok (.if_icmp .ne 29, 3) := dk_160 0 29 (dk_at dksX1_fewest_2_1 12 rfl rfl)
theorem dX1_fewest_2_39 : decode cX1_fewest_2 39 = .ok (.aload_n 0, 1) := dk_42 (dk_at dksX1_fewest_2_1 15 rfl rfl)
theorem dX1_fewest_2_40 : decode cX1_fewest_2 40 = .ok (.iload_n 2, 1) := dk_28 (dk_at dksX1_fewest_2_1 16 rfl rfl)
theorem dX1_fewest_2_41 : decode cX1_fewest_2 41 = .ok (.putfield 339, 3) := dk_181 1 83 (dk_at dksX1_fewest_2_1 17 rfl rfl)
theorem dX1_fewest_2_44 : decode cX1_fewest_2 44 = .ok (.aload_n 0, 1) := dk_42 (dk_at dksX1_fewest_2_1 20 rfl rfl)
theorem dX1_fewest_2_45 : decode cX1_fewest_2 45 = .ok (.iload_n 3, 1) := dk_29 (dk_at dksX1_fewest_2_1 21 rfl rfl)
theorem dX1_fewest_2_46 : decode cX1_fewest_2 46 = .ok (.putfield 342, 3) := dk_181 1 86 (dk_at dksX1_fewest_2_2 0 rfl rfl)
theorem dX1_fewest_2_49 : decode cX1_fewest_2 49 = .ok (.aload_n 0, 1) := dk_42 (dk_at dksX1_fewest_2_2 3 rfl rfl)
theorem dX1_fewest_2_50 : decode cX1_fewest_2 50 = .ok (.getfield 124, 3) := dk_180 0 124 (dk_at dksX1_fewest_2_2 4 rfl rfl)
theorem dX1_fewest_2_53 : decode cX1_fewest_2 53 = .ok (.iconst 0, 1) := dk_3 (dk_at dksX1_fewest_2_2 7 rfl rfl)
theorem dX1_fewest_2_54 : decode cX1_fewest_2 54 = .ok (.aload_n 0, 1) := dk_42 (dk_at dksX1_fewest_2_2 8 rfl rfl)
theorem dX1_fewest_2_55 : decode cX1_fewest_2 55 = .ok (.getfield 127, 3) := dk_180 0 127 (dk_at dksX1_fewest_2_2 9 rfl rfl)
theorem dX1_fewest_2_58 : decode cX1_fewest_2 58 = .ok (.iconst 0, 1) := dk_3 (dk_at dksX1_fewest_2_2 12 rfl rfl)
theorem dX1_fewest_2_59 : decode cX1_fewest_2 59 = .ok (.bipush 10, 2) := dk_16 10 (dk_at dksX1_fewest_2_2 13 rfl rfl)
theorem dX1_fewest_2_61 : decode cX1_fewest_2 61 = .ok (.invokestatic 345, 3) := dk_184 1 89 (dk_at dksX1_fewest_2_2 15 rfl rfl)
theorem dX1_fewest_2_64 : decode cX1_fewest_2 64 = .ok (.return_, 1) := dk_177 (dk_at dksX1_fewest_2_2 18 rfl rfl)
theorem dX1_fewest_2_65 : decode cX1_fewest_2 65 = .ok (.iconst 0, 1) := dk_3 (dk_at dksX1_fewest_2_2 19 rfl rfl)
theorem dX1_fewest_2_66 : decode cX1_fewest_2 66 = .ok (.istore 4, 2) := dk_54 4 (dk_at dksX1_fewest_2_2 20 rfl rfl)
theorem dX1_fewest_2_68 : decode cX1_fewest_2 68 = .ok (.iload 4, 2) := dk_21 4 (dk_at dksX1_fewest_2_2 22 rfl rfl)
theorem dX1_fewest_2_70 : decode cX1_fewest_2 70 = .ok (.iconst 4, 1) := dk_7 (dk_at dksX1_fewest_2_3 0 rfl rfl)
theorem dX1_fewest_2_71 : decode cX1_fewest_2 71 = .ok (.if_icmp .ge 104, 3) := dk_162 0 104 (dk_at dksX1_fewest_2_3 1 rfl rfl)
theorem dX1_fewest_2_74 : decode cX1_fewest_2 74 = .ok (.aload_n 0, 1) := dk_42 (dk_at dksX1_fewest_2_3 4 rfl rfl)
theorem dX1_fewest_2_75 : decode cX1_fewest_2 75 = .ok (.getfield 120, 3) := dk_180 0 120 (dk_at dksX1_fewest_2_3 5 rfl rfl)
theorem dX1_fewest_2_78 : decode cX1_fewest_2 78 = .ok (.iload_n 1, 1) := dk_27 (dk_at dksX1_fewest_2_3 8 rfl rfl)
theorem dX1_fewest_2_79 : decode cX1_fewest_2 79 = .ok (.iaload, 1) := dk_46 (dk_at dksX1_fewest_2_3 9 rfl rfl)
theorem dX1_fewest_2_80 : decode cX1_fewest_2 80 = .ok (.iload 4, 2) := dk_21 4 (dk_at dksX1_fewest_2_3 10 rfl rfl)
theorem dX1_fewest_2_82 : decode cX1_fewest_2 82 = .ok (.invokestatic 329, 3) := dk_184 1 73 (dk_at dksX1_fewest_2_3 12 rfl rfl)
theorem dX1_fewest_2_85 : decode cX1_fewest_2 85 = .ok (.ifCond .eq 84, 3) := dk_153 0 84 (dk_at dksX1_fewest_2_3 15 rfl rfl)
theorem dX1_fewest_2_88 : decode cX1_fewest_2 88 = .ok (.aload_n 0, 1) := dk_42 (dk_at dksX1_fewest_2_3 18 rfl rfl)
theorem dX1_fewest_2_89 : decode cX1_fewest_2 89 = .ok (.iload_n 1, 1) := dk_27 (dk_at dksX1_fewest_2_3 19 rfl rfl)
theorem dX1_fewest_2_90 : decode cX1_fewest_2 90 = .ok (.iload 4, 2) := dk_21 4 (dk_at dksX1_fewest_2_3 20 rfl rfl)
theorem dX1_fewest_2_92 : decode cX1_fewest_2 92 = .ok (.iconst (-1), 1) := dk_2 (dk_at dksX1_fewest_2_3 22 rfl rfl)
theorem dX1_fewest_2_93 : decode cX1_fewest_2 93 = .ok (.invokevirtual 351, 3) := dk_182 1 95 (dk_at dksX1_fewest_2_4 0 rfl rfl)
theorem dX1_fewest_2_96 : decode cX1_fewest_2 96 = .ok (.ifCond .eq 6, 3) := dk_153 0 6 (dk_at dksX1_fewest_2_4 3 rfl rfl)
theorem dX1_fewest_2_99 : decode cX1_fewest_2 99 = .ok (.goto 70, 3) := dk_167 0 70 (dk_at dksX1_fewest_2_4 6 rfl rfl)
theorem dX1_fewest_2_102 : decode cX1_fewest_2 102 = .ok (.aload_n 0, 1) := dk_42 (dk_at dksX1_fewest_2_4 9 rfl rfl)
theorem dX1_fewest_2_103 : decode cX1_fewest_2 103 = .ok (.getfield 124, 3) := dk_180 0 124 (dk_at dksX1_fewest_2_4 10 rfl rfl)
theorem dX1_fewest_2_106 : decode cX1_fewest_2 106 = .ok (.iload_n 1, 1) := dk_27 (dk_at dksX1_fewest_2_4 13 rfl rfl)
theorem dX1_fewest_2_107 : decode cX1_fewest_2 107 = .ok (.iload 4, 2) := dk_21 4 (dk_at dksX1_fewest_2_4 14 rfl rfl)
theorem dX1_fewest_2_109 : decode cX1_fewest_2 109 = .ok (.iastore, 1) := dk_79 (dk_at dksX1_fewest_2_4 16 rfl rfl)
theorem dX1_fewest_2_110 : decode cX1_fewest_2 110 = .ok (.iload 4, 2) := dk_21 4 (dk_at dksX1_fewest_2_4 17 rfl rfl)
theorem dX1_fewest_2_112 : decode cX1_fewest_2 112 = .ok (.aload_n 0, 1) := dk_42 (dk_at dksX1_fewest_2_4 19 rfl rfl)
theorem dX1_fewest_2_113 : decode cX1_fewest_2 113 = .ok (.getfield 90, 3) := dk_180 0 90 (dk_at dksX1_fewest_2_4 20 rfl rfl)
theorem dX1_fewest_2_116 : decode cX1_fewest_2 116 = .ok (.getfield 286, 3) := dk_180 1 30 (dk_at dksX1_fewest_2_5 0 rfl rfl)
theorem dX1_fewest_2_119 : decode cX1_fewest_2 119 = .ok (.iload_n 1, 1) := dk_27 (dk_at dksX1_fewest_2_5 3 rfl rfl)
theorem dX1_fewest_2_120 : decode cX1_fewest_2 120 = .ok (.iaload, 1) := dk_46 (dk_at dksX1_fewest_2_5 4 rfl rfl)
theorem dX1_fewest_2_121 : decode cX1_fewest_2 121 = .ok (.if_icmp .ne 7, 3) := dk_160 0 7 (dk_at dksX1_fewest_2_5 5 rfl rfl)
theorem dX1_fewest_2_124 : decode cX1_fewest_2 124 = .ok (.iconst 1, 1) := dk_4 (dk_at dksX1_fewest_2_5 8 rfl rfl)
theorem dX1_fewest_2_125 : decode cX1_fewest_2 125 = .ok (.goto 4, 3) := dk_167 0 4 (dk_at dksX1_fewest_2_5 9 rfl rfl)
theorem dX1_fewest_2_128 : decode cX1_fewest_2 128 = .ok (.iconst 0, 1) := dk_3 (dk_at dksX1_fewest_2_5 12 rfl rfl)
theorem dX1_fewest_2_129 : decode cX1_fewest_2 129 = .ok (.istore 5, 2) := dk_54 5 (dk_at dksX1_fewest_2_5 13 rfl rfl)
theorem dX1_fewest_2_131 : decode cX1_fewest_2 131 = .ok (.aload_n 0, 1) := dk_42 (dk_at dksX1_fewest_2_5 15 rfl rfl)
theorem dX1_fewest_2_132 : decode cX1_fewest_2 132 = .ok (.iload_n 1, 1) := dk_27 (dk_at dksX1_fewest_2_5 16 rfl rfl)
theorem dX1_fewest_2_133 : decode cX1_fewest_2 133 = .ok (.iconst 1, 1) := dk_4 (dk_at dksX1_fewest_2_5 17 rfl rfl)
theorem dX1_fewest_2_134 : decode cX1_fewest_2 134 = .ok (.iadd, 1) := dk_96 (dk_at dksX1_fewest_2_5 18 rfl rfl)
theorem dX1_fewest_2_135 : decode cX1_fewest_2 135 = .ok (.iload_n 2, 1) := dk_28 (dk_at dksX1_fewest_2_5 19 rfl rfl)
theorem dX1_fewest_2_136 : decode cX1_fewest_2 136 = .ok (.iload 5, 2) := dk_21 5 (dk_at dksX1_fewest_2_5 20 rfl rfl)
theorem dX1_fewest_2_138 : decode cX1_fewest_2 138 = .ok (.ifCond .eq 7, 3) := dk_153 0 7 (dk_at dksX1_fewest_2_6 0 rfl rfl)
theorem dX1_fewest_2_141 : decode cX1_fewest_2 141 = .ok (.iconst 0, 1) := dk_3 (dk_at dksX1_fewest_2_6 3 rfl rfl)
theorem dX1_fewest_2_142 : decode cX1_fewest_2 142 = .ok (.goto 11, 3) := dk_167 0 11 (dk_at dksX1_fewest_2_6 4 rfl rfl)
theorem dX1_fewest_2_145 : decode cX1_fewest_2 145 = .ok (.aload_n 0, 1) := dk_42 (dk_at dksX1_fewest_2_6 7 rfl rfl)
theorem dX1_fewest_2_146 : decode cX1_fewest_2 146 = .ok (.iload_n 1, 1) := dk_27 (dk_at dksX1_fewest_2_6 8 rfl rfl)
theorem dX1_fewest_2_147 : decode cX1_fewest_2 147 = .ok (.invokevirtual 271, 3) := dk_182 1 15 (dk_at dksX1_fewest_2_6 9 rfl rfl)
theorem dX1_fewest_2_150 : decode cX1_fewest_2 150 = .ok (.getfield 294, 3) := dk_180 1 38 (dk_at dksX1_fewest_2_6 12 rfl rfl)
theorem dX1_fewest_2_153 : decode cX1_fewest_2 153 = .ok (.iadd, 1) := dk_96 (dk_at dksX1_fewest_2_6 15 rfl rfl)
theorem dX1_fewest_2_154 : decode cX1_fewest_2 154 = .ok (.iload_n 3, 1) := dk_29 (dk_at dksX1_fewest_2_6 16 rfl rfl)
theorem dX1_fewest_2_155 : decode cX1_fewest_2 155 = .ok (.iload 5, 2) := dk_21 5 (dk_at dksX1_fewest_2_6 17 rfl rfl)
theorem dX1_fewest_2_157 : decode cX1_fewest_2 157 = .ok (.ifCond .eq 7, 3) := dk_153 0 7 (dk_at dksX1_fewest_2_6 19 rfl rfl)
theorem dX1_fewest_2_160 : decode cX1_fewest_2 160 = .ok (.iconst 0, 1) := dk_3 (dk_at dksX1_fewest_2_6 22 rfl rfl)
theorem dX1_fewest_2_161 : decode cX1_fewest_2 161 = .ok (.goto 4, 3) := dk_167 0 4 (dk_at dksX1_fewest_2_7 0 rfl rfl)
theorem dX1_fewest_2_164 : decode cX1_fewest_2 164 = .ok (.iconst 1, 1) := dk_4 (dk_at dksX1_fewest_2_7 3 rfl rfl)
theorem dX1_fewest_2_165 : decode cX1_fewest_2 165 = .ok (.iadd, 1) := dk_96 (dk_at dksX1_fewest_2_7 4 rfl rfl)
theorem dX1_fewest_2_166 : decode cX1_fewest_2 166 = .ok (.invokevirtual 371, 3) := dk_182 1 115 (dk_at dksX1_fewest_2_7 5 rfl rfl)
theorem dX1_fewest_2_169 : decode cX1_fewest_2 169 = .ok (.iinc 4 1, 3) := dk_132 4 1 (dk_at dksX1_fewest_2_7 8 rfl rfl)
theorem dX1_fewest_2_172 : decode cX1_fewest_2 172 = .ok (.goto (-104), 3) := dk_167 255 152 (dk_at dksX1_fewest_2_7 11 rfl rfl)
theorem dX1_fewest_2_175 : decode cX1_fewest_2 175 = .ok (.return_, 1) := dk_177 (dk_at dksX1_fewest_2_7 14 rfl rfl)
theorem dn_X1_fewest_2 : yX1_fewest_2.cls ≠ "java/lang/invoke/MethodHandle" ∧ yX1_fewest_2.cls ≠ "java/lang/invoke/VarHandle" ∧ (parseMethodDescriptor yX1_fewest_2.desc).map (fun d => d.parameters.length) = some 3 := by decide +kernel
noncomputable def B_X1_fewest_2 (Rc : Nat → Int32 → Int32 → Int32 → Mo Unit) (t : Nat) (p1 : Int32) (p2 : Int32) (p3 : Int32) : Mo Unit := Mo.bind (gI [0] t 19) (fun v1 => if v1 < p3 then Mo.pure () else Mo.bind (gI [0] t 19) (fun v2 => if p3 = v2 then Mo.bind (gI [0] t 18) (fun v28 => if p2 < v28 then Mo.bind (gR [0] t 9) (fun v29 => Mo.bind (gR [2] v29 0) (fun v30 => Mo.bind (gI [3] v30 6) (fun v31 => if p1 = v31 then Mo.bind (pF [0] t 18 (.int p2)) (fun _ => Mo.bind (pF [0] t 19 (.int p3)) (fun _ => Mo.bind (gR [0] t 16) (fun v52 => Mo.bind (gR [0] t 17) (fun v53 => Mo.bind (cpyI v52 0 v53 0 10) (fun _ => Mo.pure ()))))) else Mo.bind (Mo.loop (S := Int32) (E := Unit) (fun s32 => if 4 ≤ s32 then Mo.pure (Sum.inr ()) else Mo.bind (gR [0] t 15) (fun v36 => Mo.bind (aldI 0 v36 p1) (fun v37 => Mo.bind (M_X1_has v37 s32) (fun v38 => Mo.bind ((cond v38 (Mo.bind (M_X1_isBitten t p1 s32 (-1)) (fun v41 => cond v41 (Mo.pure ()) (Mo.bind (gR [0] t 16) (fun v42 => Mo.bind (astI 0 v42 p1 s32) (fun _ => Mo.bind (gR [0] t 9) (fun v43 => Mo.bind (gR [2] v43 1) (fun v44 => Mo.bind (aldI 0 v44 p1) (fun v45 => Mo.bind ((if s32 = v45 then Mo.pure true else Mo.pure false : Mo (Bool))) (fun u46 => Mo.bind ((cond u46 (Mo.pure 0) (Mo.bind (M_X1_at t p1) (fun v50 => Mo.bind (gI [9] v50 10) (fun v51 => Mo.pure v51))) : Mo (Int32))) (fun u47 => Mo.bind ((cond u46 (Mo.pure false) (Mo.pure true) : Mo (Bool))) (fun u48 => Mo.bind (Rc t (p1 + 1) (p2 + u47) (p3 + (b2i u48))) (fun v49 => Mo.pure ())))))))))))) (Mo.pure ()) : Mo (Unit))) (fun u39 => Mo.lv (s32 + 1) (fun v40 => Mo.pure (Sum.inl v40))))))) 0) (fun e35 => Mo.pure ())))) else Mo.pure ()) else Mo.bind (gR [0] t 9) (fun v3 => Mo.bind (gR [2] v3 0) (fun v4 => Mo.bind (gI [3] v4 6) (fun v5 => if p1 = v5 then Mo.bind (pF [0] t 18 (.int p2)) (fun _ => Mo.bind (pF [0] t 19 (.int p3)) (fun _ => Mo.bind (gR [0] t 16) (fun v26 => Mo.bind (gR [0] t 17) (fun v27 => Mo.bind (cpyI v26 0 v27 0 10) (fun _ => Mo.pure ()))))) else Mo.bind (Mo.loop (S := Int32) (E := Unit) (fun s6 => if 4 ≤ s6 then Mo.pure (Sum.inr ()) else Mo.bind (gR [0] t 15) (fun v10 => Mo.bind (aldI 0 v10 p1) (fun v11 => Mo.bind (M_X1_has v11 s6) (fun v12 => Mo.bind ((cond v12 (Mo.bind (M_X1_isBitten t p1 s6 (-1)) (fun v15 => cond v15 (Mo.pure ()) (Mo.bind (gR [0] t 16) (fun v16 => Mo.bind (astI 0 v16 p1 s6) (fun _ => Mo.bind (gR [0] t 9) (fun v17 => Mo.bind (gR [2] v17 1) (fun v18 => Mo.bind (aldI 0 v18 p1) (fun v19 => Mo.bind ((if s6 = v19 then Mo.pure true else Mo.pure false : Mo (Bool))) (fun u20 => Mo.bind ((cond u20 (Mo.pure 0) (Mo.bind (M_X1_at t p1) (fun v24 => Mo.bind (gI [9] v24 10) (fun v25 => Mo.pure v25))) : Mo (Int32))) (fun u21 => Mo.bind ((cond u20 (Mo.pure false) (Mo.pure true) : Mo (Bool))) (fun u22 => Mo.bind (Rc t (p1 + 1) (p2 + u21) (p3 + (b2i u22))) (fun v23 => Mo.pure ())))))))))))) (Mo.pure ()) : Mo (Unit))) (fun u13 => Mo.lv (s6 + 1) (fun v14 => Mo.pure (Sum.inl v14))))))) 0) (fun e9 => Mo.pure ()))))))
noncomputable def N_X1_fewest_2 : Nat → Nat → Int32 → Int32 → Int32 → Mo Unit
  | 0 => fun _ _ _ _ => Mo.fail
  | n + 1 => B_X1_fewest_2 (fun t p1 p2 p3 => Mo.bind (chk [0] t) (fun _ => N_X1_fewest_2 n t p1 p2 p3))
noncomputable def M_X1_fewest_2 (n : Nat) (t : Nat) (p1 : Int32) (p2 : Int32) (p3 : Int32) : Mo Unit := Mo.bind (chk [0] t) (fun _ => N_X1_fewest_2 n t p1 p2 p3)
set_option maxHeartbeats 4000000 in
theorem ct_X1_fewest_2 (G : gG) (n : Nat) : ∀ (t : Nat) (p1 : Int32) (p2 : Int32) (p3 : Int32), gCt G yX1_fewest_2 cX1_fewest_2 6 none (2 + n) (60 + n * 25) [.ref t, .int p1, .int p2, .int p3] (M_X1_fewest_2 n t p1 p2 p3) (fun _ : Unit => none) := by
  induction n with
  | zero =>
    intro t p1 p2 p3 l hfl h r h2 hf
    obtain ⟨-, hf⟩ := chk_some hf
    cases hf
  | succ n ih =>
    intro t p1 p2 p3
    refine gCt.of (by decide) (Nat.le_of_ble_eq_true rfl) (fun K r hG X hd ho => ?_)
    subst hG
    have X : gX K cX1_fewest_2 6 "BitingDoors" "fewest" none (2 + (n + 1)) (60 + (n + 1) * 25) := X
    have hle : gLe (kh1 K) (kh1 K) := gLe.rf
    show V K 6 (kh0 K) 0 [(0, .ref t), (1, .int p1), (2, .int p2), (3, .int p3)] []
    generalize kh0 K = h at hd ⊢
    obtain ⟨-, hd⟩ := chk_some hd
    have hd : (B_X1_fewest_2 (M_X1_fewest_2 n) t p1 p2 p3).1 h = some (r, kh1 K) := hd
    unfold B_X1_fewest_2 at hd
    refine v_iload_n X dX1_fewest_2_0 3 3 rfl rfl ?_
    refine v_aload_n X dX1_fewest_2_1 0 0 rfl rfl ?_
    refine v_getI X hd fl_X1_342 dX1_fewest_2_2 (fun v1 hd => ?_)
    refine v_icmp_gt (tgt := 24) X dX1_fewest_2_5 (by decide) (fun q => ?_) (fun q => ?_)
    · have hd := ite_t q hd
      exact v_vret X hd ho dX1_fewest_2_24
    · have hd := ite_f q hd
      refine v_iload_n X dX1_fewest_2_8 3 3 rfl rfl ?_
      refine v_aload_n X dX1_fewest_2_9 0 0 rfl rfl ?_
      refine v_getI X hd fl_X1_342 dX1_fewest_2_10 (fun v2 hd => ?_)
      refine v_icmp_ne (tgt := 25) X dX1_fewest_2_13 (by decide) (fun q => ?_) (fun q => ?_)
      · have hd := ite_f q hd
        refine v_iload_n X dX1_fewest_2_25 1 1 rfl rfl ?_
        refine v_aload_n X dX1_fewest_2_26 0 0 rfl rfl ?_
        refine v_getR X hd fl_X1_90 dX1_fewest_2_27 (fun v3 hd => ?_)
        refine v_getR X hd fl_X1_243 dX1_fewest_2_30 (fun v4 hd => ?_)
        refine v_getI X hd fl_X1_247 dX1_fewest_2_33 (fun v5 hd => ?_)
        refine v_icmp_ne (tgt := 65) X dX1_fewest_2_36 (by decide) (fun q => ?_) (fun q => ?_)
        · have hd := ite_f q hd
          refine v_iconst (v := 0) X dX1_fewest_2_65 (by decide) ?_
          refine v_istore (lv2 := [(4, .int 0), (0, .ref t), (1, .int p1), (2, .int p2), (3, .int p3)]) X dX1_fewest_2_66 (by decide) rfl ?_
          obtain ⟨e9, h1, hd, hd2⟩ := Mo.bind_some hd
          have KX : V K 6 h1 175 [] [] := by
            clear hd
            have hd := hd2
            exact v_vret X hd ho dX1_fewest_2_175
          have hle := (Mo.le hd2).tr hle
          clear hd2
          refine v_loc [1, 2, 3, 4, 0] rfl ?_
          refine loop_ind hd (fun (s6 : Int32) h => V K 6 h 68 [(0, .ref t), (1, .int p1), (2, .int p2), (3, .int p3), (4, .int s6)] []) (fun s6 h x h2 hd hle0 ih7 ho8 => ?_)
          have hle := hle0.tr hle
          refine v_iload X dX1_fewest_2_68 4 rfl ?_
          refine v_iconst (v := 4) X dX1_fewest_2_70 (by decide) ?_
          refine v_icmp_ge (tgt := 175) X dX1_fewest_2_71 (by decide) (fun q => ?_) (fun q => ?_)
          · have hd := ite_t q hd
            exact v_loc [] rfl (v_at (P := fun (e9 : Unit) h => V K 6 h 175 [] []) (lp_out hd ho8) KX)
          · have hd := ite_f q hd
            refine v_aload_n X dX1_fewest_2_74 0 0 rfl rfl ?_
            refine v_getR X hd fl_X1_120 dX1_fewest_2_75 (fun v10 hd => ?_)
            refine v_iload_n X dX1_fewest_2_78 1 1 rfl rfl ?_
            refine v_iald X hd dX1_fewest_2_79 (fun v11 hd => ?_)
            refine v_iload X dX1_fewest_2_80 4 rfl ?_
            refine v_callS X hd hle (ct_X1_has _ v11 s6) (lw_S q1163 q899 q109 q900) dn_X1_has rfl ⟨by omega, by omega⟩ rfl (Nat.le_of_ble_eq_true rfl) dX1_fewest_2_82 (fun v12 h hd => ?_)
            show V K 6 h 85 [(0, .ref t), (1, .int p1), (2, .int p2), (3, .int p3), (4, .int s6)] [.int (b2i v12)]
            obtain ⟨u13, h1, hd, hd2⟩ := Mo.bind_some hd
            have KJ : V K 6 h1 169 [(0, .ref t), (1, .int p1), (2, .int p2), (3, .int p3), (4, .int s6)] [] := by
              clear hd
              have hd := hd2
              refine v_iincL (lv2 := fun v14 => [(4, .int v14), (0, .ref t), (1, .int p1), (2, .int p2), (3, .int p3)]) X hd dX1_fewest_2_169 4 rfl (by decide : Int32.ofInt 1 = 1) (by decide) (fun v14 => rfl) (fun v14 hd => ?_)
              refine v_goto (tgt := 68) X dX1_fewest_2_172 (by decide) ?_
              exact v_loc [1, 2, 3, 4, 0] rfl (lp_in (P := fun (s6 : Int32) h => V K 6 h 68 [(0, .ref t), (1, .int p1), (2, .int p2), (3, .int p3), (4, .int s6)] []) hd ih7)
            have hle := (Mo.le hd2).tr hle
            clear hd2
            refine v_ifZ_eq (tgt := 169) X dX1_fewest_2_85 (by decide) (fun q => ?_) (fun q => ?_)
            · have hd := cnd_f q hd
              exact v_loc [0, 1, 2, 3, 4] rfl (v_at (P := fun (u13 : Unit) h => V K 6 h 169 [(0, .ref t), (1, .int p1), (2, .int p2), (3, .int p3), (4, .int s6)] []) hd KJ)
            · have hd := cnd_t q hd
              refine v_aload_n X dX1_fewest_2_88 0 0 rfl rfl ?_
              refine v_iload_n X dX1_fewest_2_89 1 1 rfl rfl ?_
              refine v_iload X dX1_fewest_2_90 4 rfl ?_
              refine v_iconst (v := (-1)) X dX1_fewest_2_92 (by decide) ?_
              refine v_callV X hd hle (ct_X1_isBitten _ t p1 s6 (-1)) gCl_X1 (lw_V q1190 q1192 qs18 q109 q1193) ⟨rfl, dn_X1_isBitten⟩ rfl ⟨by omega, by omega⟩ rfl (Nat.le_of_ble_eq_true rfl) dX1_fewest_2_93 (fun v15 h hd => ?_)
              show V K 6 h 96 [(0, .ref t), (1, .int p1), (2, .int p2), (3, .int p3), (4, .int s6)] [.int (b2i v15)]
              refine v_ifZ_eq (tgt := 102) X dX1_fewest_2_96 (by decide) (fun q => ?_) (fun q => ?_)
              · have hd := cnd_f q hd
                refine v_aload_n X dX1_fewest_2_102 0 0 rfl rfl ?_
                refine v_getR X hd fl_X1_124 dX1_fewest_2_103 (fun v16 hd => ?_)
                refine v_iload_n X dX1_fewest_2_106 1 1 rfl rfl ?_
                refine v_iload X dX1_fewest_2_107 4 rfl ?_
                refine v_iast X hd dX1_fewest_2_109 (fun h hd => ?_)
                refine v_iload X dX1_fewest_2_110 4 rfl ?_
                refine v_aload_n X dX1_fewest_2_112 0 0 rfl rfl ?_
                refine v_getR X hd fl_X1_90 dX1_fewest_2_113 (fun v17 hd => ?_)
                refine v_getR X hd fl_X1_286 dX1_fewest_2_116 (fun v18 hd => ?_)
                refine v_iload_n X dX1_fewest_2_119 1 1 rfl rfl ?_
                refine v_iald X hd dX1_fewest_2_120 (fun v19 hd => ?_)
                obtain ⟨u20, h1, hd, hd2⟩ := Mo.bind_some hd
                have KJ : V K 6 h1 129 [(0, .ref t), (1, .int p1), (2, .int p2), (3, .int p3), (4, .int s6)] [.int (b2i u20)] := by
                  clear hd
                  have hd := hd2
                  refine v_istore (lv2 := [(5, .int (b2i u20)), (0, .ref t), (1, .int p1), (2, .int p2), (3, .int p3), (4, .int s6)]) X dX1_fewest_2_129 (by decide) rfl ?_
                  refine v_aload_n X dX1_fewest_2_131 1 0 rfl rfl ?_
                  refine v_iload_n X dX1_fewest_2_132 2 1 rfl rfl ?_
                  refine v_iconst (v := 1) X dX1_fewest_2_133 (by decide) ?_
                  refine v_iadd X dX1_fewest_2_134 ?_
                  refine v_iload_n X dX1_fewest_2_135 3 2 rfl rfl ?_
                  refine v_iload X dX1_fewest_2_136 0 rfl ?_
                  obtain ⟨u21, h1, hd, hd2⟩ := Mo.bind_some hd
                  have KJ : V K 6 h1 153 [(0, .ref t), (1, .int p1), (2, .int p2), (3, .int p3), (4, .int s6), (5, .int (b2i u20))] [.int u21, .int p2, .int (p1 + 1), .ref t] := by
                    clear hd
                    have hd := hd2
                    refine v_iadd X dX1_fewest_2_153 ?_
                    refine v_iload_n X dX1_fewest_2_154 3 3 rfl rfl ?_
                    refine v_iload X dX1_fewest_2_155 5 rfl ?_
                    obtain ⟨u22, h1, hd, hd2⟩ := Mo.bind_some hd
                    have KJ : V K 6 h1 165 [(0, .ref t), (1, .int p1), (2, .int p2), (3, .int p3), (4, .int s6)] [.int (b2i u22), .int p3, .int (p2 + u21), .int (p1 + 1), .ref t] := by
                      clear hd
                      have hd := hd2
                      refine v_iadd X dX1_fewest_2_165 ?_
                      refine v_callV X hd hle (ih t (p1 + 1) (p2 + u21) (p3 + (b2i u22))) gCl_X1 (lw_V q1206 q1208 qs20 q109 q1209) ⟨rfl, dn_X1_fewest_2⟩ rfl ⟨by omega, by omega⟩ rfl (Nat.le_of_ble_eq_true rfl) dX1_fewest_2_166 (fun v23 h hd => ?_)
                      show V K 6 h 169 [(0, .ref t), (1, .int p1), (2, .int p2), (3, .int p3), (4, .int s6)] []
                      exact v_loc [0, 1, 2, 3, 4] rfl (v_at (P := fun (u13 : Unit) h => V K 6 h 169 [(0, .ref t), (1, .int p1), (2, .int p2), (3, .int p3), (4, .int s6)] []) hd KJ)
                    have hle := (Mo.le hd2).tr hle
                    clear hd2
                    refine v_ifZ_eq (tgt := 164) X dX1_fewest_2_157 (by decide) (fun q => ?_) (fun q => ?_)
                    · have hd := cnd_f q hd
                      refine v_iconst (v := 1) X dX1_fewest_2_164 (by decide) ?_
                      exact v_loc [0, 1, 2, 3, 4] rfl (v_at (P := fun (u22 : Bool) h => V K 6 h 165 [(0, .ref t), (1, .int p1), (2, .int p2), (3, .int p3), (4, .int s6)] [.int (b2i u22), .int p3, .int (p2 + u21), .int (p1 + 1), .ref t]) hd KJ)
                    · have hd := cnd_t q hd
                      refine v_iconst (v := 0) X dX1_fewest_2_160 (by decide) ?_
                      refine v_goto (tgt := 165) X dX1_fewest_2_161 (by decide) ?_
                      exact v_loc [0, 1, 2, 3, 4] rfl (v_at (P := fun (u22 : Bool) h => V K 6 h 165 [(0, .ref t), (1, .int p1), (2, .int p2), (3, .int p3), (4, .int s6)] [.int (b2i u22), .int p3, .int (p2 + u21), .int (p1 + 1), .ref t]) hd KJ)
                  have hle := (Mo.le hd2).tr hle
                  clear hd2
                  refine v_ifZ_eq (tgt := 145) X dX1_fewest_2_138 (by decide) (fun q => ?_) (fun q => ?_)
                  · have hd := cnd_f q hd
                    refine v_aload_n X dX1_fewest_2_145 1 0 rfl rfl ?_
                    refine v_iload_n X dX1_fewest_2_146 2 1 rfl rfl ?_
                    refine v_callV X hd hle (ct_X1_at _ t p1) gCl_X1 (lw_V q1123 q1125 qs13 q109 q1126) ⟨rfl, dn_X1_at⟩ rfl ⟨by omega, by omega⟩ rfl (Nat.le_of_ble_eq_true rfl) dX1_fewest_2_147 (fun v24 h hd => ?_)
                    show V K 6 h 150 [(5, .int (b2i u20)), (0, .ref t), (1, .int p1), (2, .int p2), (3, .int p3), (4, .int s6)] [.ref v24, .int p2, .int (p1 + 1), .ref t]
                    refine v_getI X hd fl_X1_294 dX1_fewest_2_150 (fun v25 hd => ?_)
                    exact v_loc [1, 2, 3, 4, 5, 0] rfl (v_at (P := fun (u21 : Int32) h => V K 6 h 153 [(0, .ref t), (1, .int p1), (2, .int p2), (3, .int p3), (4, .int s6), (5, .int (b2i u20))] [.int u21, .int p2, .int (p1 + 1), .ref t]) hd KJ)
                  · have hd := cnd_t q hd
                    refine v_iconst (v := 0) X dX1_fewest_2_141 (by decide) ?_
                    refine v_goto (tgt := 153) X dX1_fewest_2_142 (by decide) ?_
                    exact v_loc [1, 2, 3, 4, 5, 0] rfl (v_at (P := fun (u21 : Int32) h => V K 6 h 153 [(0, .ref t), (1, .int p1), (2, .int p2), (3, .int p3), (4, .int s6), (5, .int (b2i u20))] [.int u21, .int p2, .int (p1 + 1), .ref t]) hd KJ)
                have hle := (Mo.le hd2).tr hle
                clear hd2
                refine v_icmp_ne (tgt := 128) X dX1_fewest_2_121 (by decide) (fun q => ?_) (fun q => ?_)
                · have hd := ite_f q hd
                  refine v_iconst (v := 0) X dX1_fewest_2_128 (by decide) ?_
                  exact v_loc [0, 1, 2, 3, 4] rfl (v_at (P := fun (u20 : Bool) h => V K 6 h 129 [(0, .ref t), (1, .int p1), (2, .int p2), (3, .int p3), (4, .int s6)] [.int (b2i u20)]) hd KJ)
                · have hd := ite_t q hd
                  refine v_iconst (v := 1) X dX1_fewest_2_124 (by decide) ?_
                  refine v_goto (tgt := 129) X dX1_fewest_2_125 (by decide) ?_
                  exact v_loc [0, 1, 2, 3, 4] rfl (v_at (P := fun (u20 : Bool) h => V K 6 h 129 [(0, .ref t), (1, .int p1), (2, .int p2), (3, .int p3), (4, .int s6)] [.int (b2i u20)]) hd KJ)
              · have hd := cnd_t q hd
                refine v_goto (tgt := 169) X dX1_fewest_2_99 (by decide) ?_
                exact v_loc [0, 1, 2, 3, 4] rfl (v_at (P := fun (u13 : Unit) h => V K 6 h 169 [(0, .ref t), (1, .int p1), (2, .int p2), (3, .int p3), (4, .int s6)] []) hd KJ)
        · have hd := ite_t q hd
          refine v_aload_n X dX1_fewest_2_39 0 0 rfl rfl ?_
          refine v_iload_n X dX1_fewest_2_40 2 2 rfl rfl ?_
          refine v_put (v := .int p2) X hd fp_X1_339 rfl rfl dX1_fewest_2_41 (fun h hd => ?_)
          refine v_aload_n X dX1_fewest_2_44 0 0 rfl rfl ?_
          refine v_iload_n X dX1_fewest_2_45 3 3 rfl rfl ?_
          refine v_put (v := .int p3) X hd fp_X1_342 rfl rfl dX1_fewest_2_46 (fun h hd => ?_)
          refine v_aload_n X dX1_fewest_2_49 0 0 rfl rfl ?_
          refine v_getR X hd fl_X1_124 dX1_fewest_2_50 (fun v26 hd => ?_)
          refine v_iconst (v := 0) X dX1_fewest_2_53 (by decide) ?_
          refine v_aload_n X dX1_fewest_2_54 0 0 rfl rfl ?_
          refine v_getR X hd fl_X1_127 dX1_fewest_2_55 (fun v27 hd => ?_)
          refine v_iconst (v := 0) X dX1_fewest_2_58 (by decide) ?_
          refine v_bipush (v := 10) X dX1_fewest_2_59 (by decide) ?_
          refine v_cpyI X hd q1187 q1189 q1188 q131 (Nat.le_of_ble_eq_true rfl) (by omega) (by exact Nat.le_trans (by decide : _ ≤ 60) (by omega)) dX1_fewest_2_61 (fun h hd => ?_)
          exact v_vret X hd ho dX1_fewest_2_64
      · have hd := ite_t q hd
        refine v_iload_n X dX1_fewest_2_16 2 2 rfl rfl ?_
        refine v_aload_n X dX1_fewest_2_17 0 0 rfl rfl ?_
        refine v_getI X hd fl_X1_339 dX1_fewest_2_18 (fun v28 hd => ?_)
        refine v_icmp_lt (tgt := 25) X dX1_fewest_2_21 (by decide) (fun q => ?_) (fun q => ?_)
        · have hd := ite_t q hd
          refine v_iload_n X dX1_fewest_2_25 1 1 rfl rfl ?_
          refine v_aload_n X dX1_fewest_2_26 0 0 rfl rfl ?_
          refine v_getR X hd fl_X1_90 dX1_fewest_2_27 (fun v29 hd => ?_)
          refine v_getR X hd fl_X1_243 dX1_fewest_2_30 (fun v30 hd => ?_)
          refine v_getI X hd fl_X1_247 dX1_fewest_2_33 (fun v31 hd => ?_)
          refine v_icmp_ne (tgt := 65) X dX1_fewest_2_36 (by decide) (fun q => ?_) (fun q => ?_)
          · have hd := ite_f q hd
            refine v_iconst (v := 0) X dX1_fewest_2_65 (by decide) ?_
            refine v_istore (lv2 := [(4, .int 0), (0, .ref t), (1, .int p1), (2, .int p2), (3, .int p3)]) X dX1_fewest_2_66 (by decide) rfl ?_
            obtain ⟨e35, h1, hd, hd2⟩ := Mo.bind_some hd
            have KX : V K 6 h1 175 [] [] := by
              clear hd
              have hd := hd2
              exact v_vret X hd ho dX1_fewest_2_175
            have hle := (Mo.le hd2).tr hle
            clear hd2
            refine v_loc [1, 2, 3, 4, 0] rfl ?_
            refine loop_ind hd (fun (s32 : Int32) h => V K 6 h 68 [(0, .ref t), (1, .int p1), (2, .int p2), (3, .int p3), (4, .int s32)] []) (fun s32 h x h2 hd hle0 ih33 ho34 => ?_)
            have hle := hle0.tr hle
            refine v_iload X dX1_fewest_2_68 4 rfl ?_
            refine v_iconst (v := 4) X dX1_fewest_2_70 (by decide) ?_
            refine v_icmp_ge (tgt := 175) X dX1_fewest_2_71 (by decide) (fun q => ?_) (fun q => ?_)
            · have hd := ite_t q hd
              exact v_loc [] rfl (v_at (P := fun (e35 : Unit) h => V K 6 h 175 [] []) (lp_out hd ho34) KX)
            · have hd := ite_f q hd
              refine v_aload_n X dX1_fewest_2_74 0 0 rfl rfl ?_
              refine v_getR X hd fl_X1_120 dX1_fewest_2_75 (fun v36 hd => ?_)
              refine v_iload_n X dX1_fewest_2_78 1 1 rfl rfl ?_
              refine v_iald X hd dX1_fewest_2_79 (fun v37 hd => ?_)
              refine v_iload X dX1_fewest_2_80 4 rfl ?_
              refine v_callS X hd hle (ct_X1_has _ v37 s32) (lw_S q1163 q899 q109 q900) dn_X1_has rfl ⟨by omega, by omega⟩ rfl (Nat.le_of_ble_eq_true rfl) dX1_fewest_2_82 (fun v38 h hd => ?_)
              show V K 6 h 85 [(0, .ref t), (1, .int p1), (2, .int p2), (3, .int p3), (4, .int s32)] [.int (b2i v38)]
              obtain ⟨u39, h1, hd, hd2⟩ := Mo.bind_some hd
              have KJ : V K 6 h1 169 [(0, .ref t), (1, .int p1), (2, .int p2), (3, .int p3), (4, .int s32)] [] := by
                clear hd
                have hd := hd2
                refine v_iincL (lv2 := fun v40 => [(4, .int v40), (0, .ref t), (1, .int p1), (2, .int p2), (3, .int p3)]) X hd dX1_fewest_2_169 4 rfl (by decide : Int32.ofInt 1 = 1) (by decide) (fun v40 => rfl) (fun v40 hd => ?_)
                refine v_goto (tgt := 68) X dX1_fewest_2_172 (by decide) ?_
                exact v_loc [1, 2, 3, 4, 0] rfl (lp_in (P := fun (s32 : Int32) h => V K 6 h 68 [(0, .ref t), (1, .int p1), (2, .int p2), (3, .int p3), (4, .int s32)] []) hd ih33)
              have hle := (Mo.le hd2).tr hle
              clear hd2
              refine v_ifZ_eq (tgt := 169) X dX1_fewest_2_85 (by decide) (fun q => ?_) (fun q => ?_)
              · have hd := cnd_f q hd
                exact v_loc [0, 1, 2, 3, 4] rfl (v_at (P := fun (u39 : Unit) h => V K 6 h 169 [(0, .ref t), (1, .int p1), (2, .int p2), (3, .int p3), (4, .int s32)] []) hd KJ)
              · have hd := cnd_t q hd
                refine v_aload_n X dX1_fewest_2_88 0 0 rfl rfl ?_
                refine v_iload_n X dX1_fewest_2_89 1 1 rfl rfl ?_
                refine v_iload X dX1_fewest_2_90 4 rfl ?_
                refine v_iconst (v := (-1)) X dX1_fewest_2_92 (by decide) ?_
                refine v_callV X hd hle (ct_X1_isBitten _ t p1 s32 (-1)) gCl_X1 (lw_V q1190 q1192 qs18 q109 q1193) ⟨rfl, dn_X1_isBitten⟩ rfl ⟨by omega, by omega⟩ rfl (Nat.le_of_ble_eq_true rfl) dX1_fewest_2_93 (fun v41 h hd => ?_)
                show V K 6 h 96 [(0, .ref t), (1, .int p1), (2, .int p2), (3, .int p3), (4, .int s32)] [.int (b2i v41)]
                refine v_ifZ_eq (tgt := 102) X dX1_fewest_2_96 (by decide) (fun q => ?_) (fun q => ?_)
                · have hd := cnd_f q hd
                  refine v_aload_n X dX1_fewest_2_102 0 0 rfl rfl ?_
                  refine v_getR X hd fl_X1_124 dX1_fewest_2_103 (fun v42 hd => ?_)
                  refine v_iload_n X dX1_fewest_2_106 1 1 rfl rfl ?_
                  refine v_iload X dX1_fewest_2_107 4 rfl ?_
                  refine v_iast X hd dX1_fewest_2_109 (fun h hd => ?_)
                  refine v_iload X dX1_fewest_2_110 4 rfl ?_
                  refine v_aload_n X dX1_fewest_2_112 0 0 rfl rfl ?_
                  refine v_getR X hd fl_X1_90 dX1_fewest_2_113 (fun v43 hd => ?_)
                  refine v_getR X hd fl_X1_286 dX1_fewest_2_116 (fun v44 hd => ?_)
                  refine v_iload_n X dX1_fewest_2_119 1 1 rfl rfl ?_
                  refine v_iald X hd dX1_fewest_2_120 (fun v45 hd => ?_)
                  obtain ⟨u46, h1, hd, hd2⟩ := Mo.bind_some hd
                  have KJ : V K 6 h1 129 [(0, .ref t), (1, .int p1), (2, .int p2), (3, .int p3), (4, .int s32)] [.int (b2i u46)] := by
                    clear hd
                    have hd := hd2
                    refine v_istore (lv2 := [(5, .int (b2i u46)), (0, .ref t), (1, .int p1), (2, .int p2), (3, .int p3), (4, .int s32)]) X dX1_fewest_2_129 (by decide) rfl ?_
                    refine v_aload_n X dX1_fewest_2_131 1 0 rfl rfl ?_
                    refine v_iload_n X dX1_fewest_2_132 2 1 rfl rfl ?_
                    refine v_iconst (v := 1) X dX1_fewest_2_133 (by decide) ?_
                    refine v_iadd X dX1_fewest_2_134 ?_
                    refine v_iload_n X dX1_fewest_2_135 3 2 rfl rfl ?_
                    refine v_iload X dX1_fewest_2_136 0 rfl ?_
                    obtain ⟨u47, h1, hd, hd2⟩ := Mo.bind_some hd
                    have KJ : V K 6 h1 153 [(0, .ref t), (1, .int p1), (2, .int p2), (3, .int p3), (4, .int s32), (5, .int (b2i u46))] [.int u47, .int p2, .int (p1 + 1), .ref t] := by
                      clear hd
                      have hd := hd2
                      refine v_iadd X dX1_fewest_2_153 ?_
                      refine v_iload_n X dX1_fewest_2_154 3 3 rfl rfl ?_
                      refine v_iload X dX1_fewest_2_155 5 rfl ?_
                      obtain ⟨u48, h1, hd, hd2⟩ := Mo.bind_some hd
                      have KJ : V K 6 h1 165 [(0, .ref t), (1, .int p1), (2, .int p2), (3, .int p3), (4, .int s32)] [.int (b2i u48), .int p3, .int (p2 + u47), .int (p1 + 1), .ref t] := by
                        clear hd
                        have hd := hd2
                        refine v_iadd X dX1_fewest_2_165 ?_
                        refine v_callV X hd hle (ih t (p1 + 1) (p2 + u47) (p3 + (b2i u48))) gCl_X1 (lw_V q1206 q1208 qs20 q109 q1209) ⟨rfl, dn_X1_fewest_2⟩ rfl ⟨by omega, by omega⟩ rfl (Nat.le_of_ble_eq_true rfl) dX1_fewest_2_166 (fun v49 h hd => ?_)
                        show V K 6 h 169 [(0, .ref t), (1, .int p1), (2, .int p2), (3, .int p3), (4, .int s32)] []
                        exact v_loc [0, 1, 2, 3, 4] rfl (v_at (P := fun (u39 : Unit) h => V K 6 h 169 [(0, .ref t), (1, .int p1), (2, .int p2), (3, .int p3), (4, .int s32)] []) hd KJ)
                      have hle := (Mo.le hd2).tr hle
                      clear hd2
                      refine v_ifZ_eq (tgt := 164) X dX1_fewest_2_157 (by decide) (fun q => ?_) (fun q => ?_)
                      · have hd := cnd_f q hd
                        refine v_iconst (v := 1) X dX1_fewest_2_164 (by decide) ?_
                        exact v_loc [0, 1, 2, 3, 4] rfl (v_at (P := fun (u48 : Bool) h => V K 6 h 165 [(0, .ref t), (1, .int p1), (2, .int p2), (3, .int p3), (4, .int s32)] [.int (b2i u48), .int p3, .int (p2 + u47), .int (p1 + 1), .ref t]) hd KJ)
                      · have hd := cnd_t q hd
                        refine v_iconst (v := 0) X dX1_fewest_2_160 (by decide) ?_
                        refine v_goto (tgt := 165) X dX1_fewest_2_161 (by decide) ?_
                        exact v_loc [0, 1, 2, 3, 4] rfl (v_at (P := fun (u48 : Bool) h => V K 6 h 165 [(0, .ref t), (1, .int p1), (2, .int p2), (3, .int p3), (4, .int s32)] [.int (b2i u48), .int p3, .int (p2 + u47), .int (p1 + 1), .ref t]) hd KJ)
                    have hle := (Mo.le hd2).tr hle
                    clear hd2
                    refine v_ifZ_eq (tgt := 145) X dX1_fewest_2_138 (by decide) (fun q => ?_) (fun q => ?_)
                    · have hd := cnd_f q hd
                      refine v_aload_n X dX1_fewest_2_145 1 0 rfl rfl ?_
                      refine v_iload_n X dX1_fewest_2_146 2 1 rfl rfl ?_
                      refine v_callV X hd hle (ct_X1_at _ t p1) gCl_X1 (lw_V q1123 q1125 qs13 q109 q1126) ⟨rfl, dn_X1_at⟩ rfl ⟨by omega, by omega⟩ rfl (Nat.le_of_ble_eq_true rfl) dX1_fewest_2_147 (fun v50 h hd => ?_)
                      show V K 6 h 150 [(5, .int (b2i u46)), (0, .ref t), (1, .int p1), (2, .int p2), (3, .int p3), (4, .int s32)] [.ref v50, .int p2, .int (p1 + 1), .ref t]
                      refine v_getI X hd fl_X1_294 dX1_fewest_2_150 (fun v51 hd => ?_)
                      exact v_loc [1, 2, 3, 4, 5, 0] rfl (v_at (P := fun (u47 : Int32) h => V K 6 h 153 [(0, .ref t), (1, .int p1), (2, .int p2), (3, .int p3), (4, .int s32), (5, .int (b2i u46))] [.int u47, .int p2, .int (p1 + 1), .ref t]) hd KJ)
                    · have hd := cnd_t q hd
                      refine v_iconst (v := 0) X dX1_fewest_2_141 (by decide) ?_
                      refine v_goto (tgt := 153) X dX1_fewest_2_142 (by decide) ?_
                      exact v_loc [1, 2, 3, 4, 5, 0] rfl (v_at (P := fun (u47 : Int32) h => V K 6 h 153 [(0, .ref t), (1, .int p1), (2, .int p2), (3, .int p3), (4, .int s32), (5, .int (b2i u46))] [.int u47, .int p2, .int (p1 + 1), .ref t]) hd KJ)
                  have hle := (Mo.le hd2).tr hle
                  clear hd2
                  refine v_icmp_ne (tgt := 128) X dX1_fewest_2_121 (by decide) (fun q => ?_) (fun q => ?_)
                  · have hd := ite_f q hd
                    refine v_iconst (v := 0) X dX1_fewest_2_128 (by decide) ?_
                    exact v_loc [0, 1, 2, 3, 4] rfl (v_at (P := fun (u46 : Bool) h => V K 6 h 129 [(0, .ref t), (1, .int p1), (2, .int p2), (3, .int p3), (4, .int s32)] [.int (b2i u46)]) hd KJ)
                  · have hd := ite_t q hd
                    refine v_iconst (v := 1) X dX1_fewest_2_124 (by decide) ?_
                    refine v_goto (tgt := 129) X dX1_fewest_2_125 (by decide) ?_
                    exact v_loc [0, 1, 2, 3, 4] rfl (v_at (P := fun (u46 : Bool) h => V K 6 h 129 [(0, .ref t), (1, .int p1), (2, .int p2), (3, .int p3), (4, .int s32)] [.int (b2i u46)]) hd KJ)
                · have hd := cnd_t q hd
                  refine v_goto (tgt := 169) X dX1_fewest_2_99 (by decide) ?_
                  exact v_loc [0, 1, 2, 3, 4] rfl (v_at (P := fun (u39 : Unit) h => V K 6 h 169 [(0, .ref t), (1, .int p1), (2, .int p2), (3, .int p3), (4, .int s32)] []) hd KJ)
          · have hd := ite_t q hd
            refine v_aload_n X dX1_fewest_2_39 0 0 rfl rfl ?_
            refine v_iload_n X dX1_fewest_2_40 2 2 rfl rfl ?_
            refine v_put (v := .int p2) X hd fp_X1_339 rfl rfl dX1_fewest_2_41 (fun h hd => ?_)
            refine v_aload_n X dX1_fewest_2_44 0 0 rfl rfl ?_
            refine v_iload_n X dX1_fewest_2_45 3 3 rfl rfl ?_
            refine v_put (v := .int p3) X hd fp_X1_342 rfl rfl dX1_fewest_2_46 (fun h hd => ?_)
            refine v_aload_n X dX1_fewest_2_49 0 0 rfl rfl ?_
            refine v_getR X hd fl_X1_124 dX1_fewest_2_50 (fun v52 hd => ?_)
            refine v_iconst (v := 0) X dX1_fewest_2_53 (by decide) ?_
            refine v_aload_n X dX1_fewest_2_54 0 0 rfl rfl ?_
            refine v_getR X hd fl_X1_127 dX1_fewest_2_55 (fun v53 hd => ?_)
            refine v_iconst (v := 0) X dX1_fewest_2_58 (by decide) ?_
            refine v_bipush (v := 10) X dX1_fewest_2_59 (by decide) ?_
            refine v_cpyI X hd q1187 q1189 q1188 q131 (Nat.le_of_ble_eq_true rfl) (by omega) (by exact Nat.le_trans (by decide : _ ≤ 60) (by omega)) dX1_fewest_2_61 (fun h hd => ?_)
            exact v_vret X hd ho dX1_fewest_2_64
        · have hd := ite_f q hd
          exact v_vret X hd ho dX1_fewest_2_24
def dkwX1_findFewest_1 : List UInt8 := [42, 180, 1, 86, 16, 10, 163, 0, 7, 4, 167, 0, 4, 3, 172]
abbrev dktX1_findFewest_1 : List UInt8 := dkwX1_findFewest_1 ++ []
def dkwX1_findFewest_0 : List UInt8 := [42, 182, 1, 102, 42, 19, 1, 104, 181, 1, 83, 42, 16, 11, 181, 1, 86, 42, 3, 3, 3, 182, 1, 115]
abbrev dktX1_findFewest_0 : List UInt8 := dkwX1_findFewest_0 ++ dktX1_findFewest_1
theorem dksX1_findFewest_0 : cX1_findFewest.data.toList.drop 0 = dktX1_findFewest_0 := by decide +kernel
theorem dksX1_findFewest_1 : cX1_findFewest.data.toList.drop 24 = dktX1_findFewest_1 := dk_seg dksX1_findFewest_0 24 rfl rfl
theorem dX1_findFewest_0 : decode cX1_findFewest 0 = .ok (.aload_n 0, 1) := dk_42 (dk_at dksX1_findFewest_0 0 rfl rfl)
theorem dX1_findFewest_1 : decode cX1_findFewest 1 = .ok (.invokevirtual 358, 3) := dk_182 1 102 (dk_at dksX1_findFewest_0 1 rfl rfl)
theorem dX1_findFewest_4 : decode cX1_findFewest 4 = .ok (.aload_n 0, 1) := dk_42 (dk_at dksX1_findFewest_0 4 rfl rfl)
theorem dX1_findFewest_5 : decode cX1_findFewest 5 = .ok (.ldc_w 360, 3) := dk_19 1 104 (dk_at dksX1_findFewest_0 5 rfl rfl)
theorem dX1_findFewest_8 : decode cX1_findFewest 8 = .ok (.putfield 339, 3) := dk_181 1 83 (dk_at dksX1_findFewest_0 8 rfl rfl)
theorem dX1_findFewest_11 : decode cX1_findFewest 11 = .ok (.aload_n 0, 1) := dk_42 (dk_at dksX1_findFewest_0 11 rfl rfl)
theorem dX1_findFewest_12 : decode cX1_findFewest 12 = .ok (.bipush 11, 2) := dk_16 11 (dk_at dksX1_findFewest_0 12 rfl rfl)
theorem dX1_findFewest_14 : decode cX1_findFewest 14 = .ok (.putfield 342, 3) := dk_181 1 86 (dk_at dksX1_findFewest_0 14 rfl rfl)
theorem dX1_findFewest_17 : decode cX1_findFewest 17 = .ok (.aload_n 0, 1) := dk_42 (dk_at dksX1_findFewest_0 17 rfl rfl)
theorem dX1_findFewest_18 : decode cX1_findFewest 18 = .ok (.iconst 0, 1) := dk_3 (dk_at dksX1_findFewest_0 18 rfl rfl)
theorem dX1_findFewest_19 : decode cX1_findFewest 19 = .ok (.iconst 0, 1) := dk_3 (dk_at dksX1_findFewest_0 19 rfl rfl)
theorem dX1_findFewest_20 : decode cX1_findFewest 20 = .ok (.iconst 0, 1) := dk_3 (dk_at dksX1_findFewest_0 20 rfl rfl)
theorem dX1_findFewest_21 : decode cX1_findFewest 21 = .ok (.invokevirtual 371, 3) := dk_182 1 115 (dk_at dksX1_findFewest_0 21 rfl rfl)
theorem dX1_findFewest_24 : decode cX1_findFewest 24 = .ok (.aload_n 0, 1) := dk_42 (dk_at dksX1_findFewest_1 0 rfl rfl)
theorem dX1_findFewest_25 : decode cX1_findFewest 25 = .ok (.getfield 342, 3) := dk_180 1 86 (dk_at dksX1_findFewest_1 1 rfl rfl)
theorem dX1_findFewest_28 : decode cX1_findFewest 28 = .ok (.bipush 10, 2) := dk_16 10 (dk_at dksX1_findFewest_1 4 rfl rfl)
theorem dX1_findFewest_30 : decode cX1_findFewest 30 = .ok (.if_icmp .gt 7, 3) := dk_163 0 7 (dk_at dksX1_findFewest_1 6 rfl rfl)
theorem dX1_findFewest_33 : decode cX1_findFewest 33 = .ok (.iconst 1, 1) := dk_4 (dk_at dksX1_findFewest_1 9 rfl rfl)
theorem dX1_findFewest_34 : decode cX1_findFewest 34 = .ok (.goto 4, 3) := dk_167 0 4 (dk_at dksX1_findFewest_1 10 rfl rfl)
theorem dX1_findFewest_37 : decode cX1_findFewest 37 = .ok (.iconst 0, 1) := dk_3 (dk_at dksX1_findFewest_1 13 rfl rfl)
theorem dX1_findFewest_38 : decode cX1_findFewest 38 = .ok (.ireturn, 1) := dk_172 (dk_at dksX1_findFewest_1 14 rfl rfl)
theorem dn_X1_findFewest : yX1_findFewest.cls ≠ "java/lang/invoke/MethodHandle" ∧ yX1_findFewest.cls ≠ "java/lang/invoke/VarHandle" ∧ (parseMethodDescriptor yX1_findFewest.desc).map (fun d => d.parameters.length) = some 0 := by decide +kernel
noncomputable def M_X1_findFewest (t : Nat) : Mo Bool := Mo.bind (chk [0] t) (fun _ => Mo.bind (M_X1_domains t) (fun v1 => Mo.bind (pF [0] t 18 (.int 1000000000)) (fun _ => Mo.bind (pF [0] t 19 (.int 11)) (fun _ => Mo.bind (M_X1_fewest_2 12 t 0 0 0) (fun v2 => Mo.bind (gI [0] t 19) (fun v3 => Mo.bind ((if 10 < v3 then Mo.pure false else Mo.pure true : Mo (Bool))) (fun u4 => Mo.pure u4)))))))
set_option maxHeartbeats 4000000 in
theorem ct_X1_findFewest (G : gG) (t : Nat) : gCt G yX1_findFewest cX1_findFewest 1 (some .boolean) 15 385 [.ref t] (M_X1_findFewest t) (fun x : Bool => some (.int (b2i x))) := by
  refine gCt.of (by decide) (Nat.le_of_ble_eq_true rfl) (fun K r hG X hd ho => ?_)
  subst hG
  have X : gX K cX1_findFewest 1 "BitingDoors" "findFewest" (some .boolean) 15 385 := X
  have hle : gLe (kh1 K) (kh1 K) := gLe.rf
  show V K 1 (kh0 K) 0 [(0, .ref t)] []
  generalize kh0 K = h at hd ⊢
  unfold M_X1_findFewest at hd
  obtain ⟨-, hd⟩ := chk_some hd
  refine v_aload_n X dX1_findFewest_0 0 0 rfl rfl ?_
  refine v_callV X hd hle (ct_X1_domains _ t) gCl_X1 (lw_V q1172 q1174 qs16 q109 q1175) ⟨rfl, dn_X1_domains⟩ rfl ⟨by decide, by decide⟩ rfl (Nat.le_of_ble_eq_true rfl) dX1_findFewest_1 (fun v1 h hd => ?_)
  show V K 1 h 4 [(0, .ref t)] []
  refine v_aload_n X dX1_findFewest_4 0 0 rfl rfl ?_
  refine v_ldcw X q1182 dX1_findFewest_5 ?_
  refine v_put (v := .int 1000000000) X hd fp_X1_339 rfl rfl dX1_findFewest_8 (fun h hd => ?_)
  refine v_aload_n X dX1_findFewest_11 0 0 rfl rfl ?_
  refine v_bipush (v := 11) X dX1_findFewest_12 (by decide) ?_
  refine v_put (v := .int 11) X hd fp_X1_342 rfl rfl dX1_findFewest_14 (fun h hd => ?_)
  refine v_aload_n X dX1_findFewest_17 0 0 rfl rfl ?_
  refine v_iconst (v := 0) X dX1_findFewest_18 (by decide) ?_
  refine v_iconst (v := 0) X dX1_findFewest_19 (by decide) ?_
  refine v_iconst (v := 0) X dX1_findFewest_20 (by decide) ?_
  refine v_callV X hd hle (ct_X1_fewest_2 _ 12 t 0 0 0) gCl_X1 (lw_V q1206 q1208 qs20 q109 q1209) ⟨rfl, dn_X1_fewest_2⟩ rfl ⟨by decide, by decide⟩ rfl (Nat.le_of_ble_eq_true rfl) dX1_findFewest_21 (fun v2 h hd => ?_)
  show V K 1 h 24 [(0, .ref t)] []
  refine v_aload_n X dX1_findFewest_24 0 0 rfl rfl ?_
  refine v_getI X hd fl_X1_342 dX1_findFewest_25 (fun v3 hd => ?_)
  refine v_bipush (v := 10) X dX1_findFewest_28 (by decide) ?_
  obtain ⟨u4, h1, hd, hd2⟩ := Mo.bind_some hd
  have KJ : V K 1 h1 38 [] [.int (b2i u4)] := by
    clear hd
    have hd := hd2
    exact v_zret X hd rfl ho dX1_findFewest_38
  have hle := (Mo.le hd2).tr hle
  clear hd2
  refine v_icmp_gt (tgt := 37) X dX1_findFewest_30 (by decide) (fun q => ?_) (fun q => ?_)
  · have hd := ite_t q hd
    refine v_iconst (v := 0) X dX1_findFewest_37 (by decide) ?_
    exact v_loc [] rfl (v_at (P := fun (u4 : Bool) h => V K 1 h 38 [] [.int (b2i u4)]) hd KJ)
  · have hd := ite_f q hd
    refine v_iconst (v := 1) X dX1_findFewest_33 (by decide) ?_
    refine v_goto (tgt := 38) X dX1_findFewest_34 (by decide) ?_
    exact v_loc [] rfl (v_at (P := fun (u4 : Bool) h => V K 1 h 38 [] [.int (b2i u4)]) hd KJ)
def dkwX1_fewest_0 : List UInt8 := [42, 182, 1, 118, 153, 0, 10, 42, 180, 1, 86, 167, 0, 4, 2, 172]
abbrev dktX1_fewest_0 : List UInt8 := dkwX1_fewest_0 ++ []
theorem dksX1_fewest_0 : cX1_fewest.data.toList.drop 0 = dktX1_fewest_0 := by decide +kernel
theorem dX1_fewest_0 : decode cX1_fewest 0 = .ok (.aload_n 0, 1) := dk_42 (dk_at dksX1_fewest_0 0 rfl rfl)
theorem dX1_fewest_1 : decode cX1_fewest 1 = .ok (.invokevirtual 374, 3) := dk_182 1 118 (dk_at dksX1_fewest_0 1 rfl rfl)
theorem dX1_fewest_4 : decode cX1_fewest 4 = .ok (.ifCond .eq 10, 3) := dk_153 0 10 (dk_at dksX1_fewest_0 4 rfl rfl)
theorem dX1_fewest_7 : decode cX1_fewest 7 = .ok (.aload_n 0, 1) := dk_42 (dk_at dksX1_fewest_0 7 rfl rfl)
theorem dX1_fewest_8 : decode cX1_fewest 8 = .ok (.getfield 342, 3) := dk_180 1 86 (dk_at dksX1_fewest_0 8 rfl rfl)
theorem dX1_fewest_11 : decode cX1_fewest 11 = .ok (.goto 4, 3) := dk_167 0 4 (dk_at dksX1_fewest_0 11 rfl rfl)
theorem dX1_fewest_14 : decode cX1_fewest 14 = .ok (.iconst (-1), 1) := dk_2 (dk_at dksX1_fewest_0 14 rfl rfl)
theorem dX1_fewest_15 : decode cX1_fewest 15 = .ok (.ireturn, 1) := dk_172 (dk_at dksX1_fewest_0 15 rfl rfl)
theorem dn_X1_fewest : yX1_fewest.cls ≠ "java/lang/invoke/MethodHandle" ∧ yX1_fewest.cls ≠ "java/lang/invoke/VarHandle" ∧ (parseMethodDescriptor yX1_fewest.desc).map (fun d => d.parameters.length) = some 0 := by decide +kernel
noncomputable def M_X1_fewest (t : Nat) : Mo Int32 := Mo.bind (chk [0] t) (fun _ => Mo.bind (M_X1_findFewest t) (fun v1 => Mo.bind ((cond v1 (Mo.bind (gI [0] t 19) (fun v3 => Mo.pure v3)) (Mo.pure (-1)) : Mo (Int32))) (fun u2 => Mo.pure u2)))
set_option maxHeartbeats 4000000 in
theorem ct_X1_fewest (G : gG) (t : Nat) : gCt G yX1_fewest cX1_fewest 1 (some .int) 16 405 [.ref t] (M_X1_fewest t) (fun x : Int32 => some (.int x)) := by
  refine gCt.of (by decide) (Nat.le_of_ble_eq_true rfl) (fun K r hG X hd ho => ?_)
  subst hG
  have X : gX K cX1_fewest 1 "BitingDoors" "fewest" (some .int) 16 405 := X
  have hle : gLe (kh1 K) (kh1 K) := gLe.rf
  show V K 1 (kh0 K) 0 [(0, .ref t)] []
  generalize kh0 K = h at hd ⊢
  unfold M_X1_fewest at hd
  obtain ⟨-, hd⟩ := chk_some hd
  refine v_aload_n X dX1_fewest_0 0 0 rfl rfl ?_
  refine v_callV X hd hle (ct_X1_findFewest _ t) gCl_X1 (lw_V q1202 q1204 qs19 q109 q1205) ⟨rfl, dn_X1_findFewest⟩ rfl ⟨by decide, by decide⟩ rfl (Nat.le_of_ble_eq_true rfl) dX1_fewest_1 (fun v1 h hd => ?_)
  show V K 1 h 4 [(0, .ref t)] [.int (b2i v1)]
  obtain ⟨u2, h1, hd, hd2⟩ := Mo.bind_some hd
  have KJ : V K 1 h1 15 [] [.int u2] := by
    clear hd
    have hd := hd2
    exact v_iret X hd ho dX1_fewest_15
  have hle := (Mo.le hd2).tr hle
  clear hd2
  refine v_ifZ_eq (tgt := 14) X dX1_fewest_4 (by decide) (fun q => ?_) (fun q => ?_)
  · have hd := cnd_f q hd
    refine v_iconst (v := (-1)) X dX1_fewest_14 (by decide) ?_
    exact v_loc [] rfl (v_at (P := fun (u2 : Int32) h => V K 1 h 15 [] [.int u2]) hd KJ)
  · have hd := cnd_t q hd
    refine v_aload_n X dX1_fewest_7 0 0 rfl rfl ?_
    refine v_getI X hd fl_X1_342 dX1_fewest_8 (fun v3 hd => ?_)
    refine v_goto (tgt := 15) X dX1_fewest_11 (by decide) ?_
    exact v_loc [] rfl (v_at (P := fun (u2 : Int32) h => V K 1 h 15 [] [.int u2]) hd KJ)
def dkwX3_isLeaf_1 : List UInt8 := [182, 0, 56, 153, 0, 5, 4, 172, 132, 3, 1, 167, 255, 223, 3, 172]
abbrev dktX3_isLeaf_1 : List UInt8 := dkwX3_isLeaf_1 ++ []
def dkwX3_isLeaf_0 : List UInt8 := [3, 62, 29, 42, 180, 0, 12, 180, 0, 29, 162, 0, 28, 29, 28, 159, 0, 17, 42, 29, 182, 0, 53, 27]
abbrev dktX3_isLeaf_0 : List UInt8 := dkwX3_isLeaf_0 ++ dktX3_isLeaf_1
theorem dksX3_isLeaf_0 : cX3_isLeaf.data.toList.drop 0 = dktX3_isLeaf_0 := by decide +kernel
theorem dksX3_isLeaf_1 : cX3_isLeaf.data.toList.drop 24 = dktX3_isLeaf_1 := dk_seg dksX3_isLeaf_0 24 rfl rfl
theorem dX3_isLeaf_0 : decode cX3_isLeaf 0 = .ok (.iconst 0, 1) := dk_3 (dk_at dksX3_isLeaf_0 0 rfl rfl)
theorem dX3_isLeaf_1 : decode cX3_isLeaf 1 = .ok (.istore_n 3, 1) := dk_62 (dk_at dksX3_isLeaf_0 1 rfl rfl)
theorem dX3_isLeaf_2 : decode cX3_isLeaf 2 = .ok (.iload_n 3, 1) := dk_29 (dk_at dksX3_isLeaf_0 2 rfl rfl)
theorem dX3_isLeaf_3 : decode cX3_isLeaf 3 = .ok (.aload_n 0, 1) := dk_42 (dk_at dksX3_isLeaf_0 3 rfl rfl)
theorem dX3_isLeaf_4 : decode cX3_isLeaf 4 = .ok (.getfield 12, 3) := dk_180 0 12 (dk_at dksX3_isLeaf_0 4 rfl rfl)
theorem dX3_isLeaf_7 : decode cX3_isLeaf 7 = .ok (.getfield 29, 3) := dk_180 0 29 (dk_at dksX3_isLeaf_0 7 rfl rfl)
theorem dX3_isLeaf_10 : decode cX3_isLeaf 10 = .ok (.if_icmp .ge 28, 3) := dk_162 0 28 (dk_at dksX3_isLeaf_0 10 rfl rfl)
theorem dX3_isLeaf_13 : decode cX3_isLeaf 13 = .ok (.iload_n 3, 1) := dk_29 (dk_at dksX3_isLeaf_0 13 rfl rfl)
theorem dX3_isLeaf_14 : decode cX3_isLeaf 14 = .ok (.iload_n 2, 1) := dk_28 (dk_at dksX3_isLeaf_0 14 rfl rfl)
theorem dX3_isLeaf_15 : decode cX3_isLeaf 15 = .ok (.if_icmp .eq 17, 3) := dk_159 0 17 (dk_at dksX3_isLeaf_0 15 rfl rfl)
theorem dX3_isLeaf_18 : decode cX3_isLeaf 18 = .ok (.aload_n 0, 1) := dk_42 (dk_at dksX3_isLeaf_0 18 rfl rfl)
theorem dX3_isLeaf_19 : decode cX3_isLeaf 19 = .ok (.iload_n 3, 1) := dk_29 (dk_at dksX3_isLeaf_0 19 rfl rfl)
theorem dX3_isLeaf_20 : decode cX3_isLeaf 20 = .ok (.invokevirtual 53, 3) := dk_182 0 53 (dk_at dksX3_isLeaf_0 20 rfl rfl)
theorem dX3_isLeaf_23 : decode cX3_isLeaf 23 = .ok (.iload_n 1, 1) := dk_27 (dk_at dksX3_isLeaf_0 23 rfl rfl)
theorem dX3_isLeaf_24 : decode cX3_isLeaf 24 = .ok (.invokevirtual 56, 3) := dk_182 0 56 (dk_at dksX3_isLeaf_1 0 rfl rfl)
theorem dX3_isLeaf_27 : decode cX3_isLeaf 27 = .ok (.ifCond .eq 5, 3) := dk_153 0 5 (dk_at dksX3_isLeaf_1 3 rfl rfl)
theorem dX3_isLeaf_30 : decode cX3_isLeaf 30 = .ok (.iconst 1, 1) := dk_4 (dk_at dksX3_isLeaf_1 6 rfl rfl)
theorem dX3_isLeaf_31 : decode cX3_isLeaf 31 = .ok (.ireturn, 1) := dk_172 (dk_at dksX3_isLeaf_1 7 rfl rfl)
theorem dX3_isLeaf_32 : decode cX3_isLeaf 32 = .ok (.iinc 3 1, 3) := dk_132 3 1 (dk_at dksX3_isLeaf_1 8 rfl rfl)
theorem dX3_isLeaf_35 : decode cX3_isLeaf 35 = .ok (.goto (-33), 3) := dk_167 255 223 (dk_at dksX3_isLeaf_1 11 rfl rfl)
theorem dX3_isLeaf_38 : decode cX3_isLeaf 38 = .ok (.iconst 0, 1) := dk_3 (dk_at dksX3_isLeaf_1 14 rfl rfl)
theorem dX3_isLeaf_39 : decode cX3_isLeaf 39 = .ok (.ireturn, 1) := dk_172 (dk_at dksX3_isLeaf_1 15 rfl rfl)
theorem fl_X3_29 : gFl "BitingDoors$Walker" 29 [3] 6 := by
  intro args s hts hN ci hc
  simp only [List.mem_cons, List.not_mem_nil, or_false] at hc
  subst hc
  exact ⟨RX4, TX4, 9, "BitingDoors$House", gCl_X4, in_X4, by decide, Or.inr ⟨"BitingDoors", va_Nw.use rfl (hN.1 ("BitingDoors$Walker", 29, "BitingDoors$House", "many", "I", "BitingDoors") (List.mem_of_getElem? (i := 27) rfl))⟩, fun _ h => h⟩
theorem dn_X3_isLeaf : yX3_isLeaf.cls ≠ "java/lang/invoke/MethodHandle" ∧ yX3_isLeaf.cls ≠ "java/lang/invoke/VarHandle" ∧ (parseMethodDescriptor yX3_isLeaf.desc).map (fun d => d.parameters.length) = some 2 := by decide +kernel
noncomputable def M_X3_isLeaf (t : Nat) (p1 : Int32) (p2 : Int32) : Mo Bool := Mo.bind (chk [2] t) (fun _ => Mo.loop (S := Int32) (fun s1 => Mo.bind (gR [2] t 0) (fun v4 => Mo.bind (gI [3] v4 6) (fun v5 => if v5 ≤ s1 then Mo.pure (Sum.inr false) else if s1 = p2 then Mo.lv (s1 + 1) (fun v6 => Mo.pure (Sum.inl v6)) else Mo.bind (M_X3_leaf t s1) (fun v7 => Mo.bind (M_X12_has v7 p1) (fun v8 => cond v8 (Mo.pure (Sum.inr true)) (Mo.lv (s1 + 1) (fun v9 => Mo.pure (Sum.inl v9)))))))) 0)
set_option maxHeartbeats 4000000 in
theorem ct_X3_isLeaf (G : gG) (t : Nat) (p1 : Int32) (p2 : Int32) : gCt G yX3_isLeaf cX3_isLeaf 4 (some .boolean) 2 43 [.ref t, .int p1, .int p2] (M_X3_isLeaf t p1 p2) (fun x : Bool => some (.int (b2i x))) := by
  refine gCt.of (by decide) (Nat.le_of_ble_eq_true rfl) (fun K r hG X hd ho => ?_)
  subst hG
  have X : gX K cX3_isLeaf 4 "BitingDoors$Walker" "isLeaf" (some .boolean) 2 43 := X
  have hle : gLe (kh1 K) (kh1 K) := gLe.rf
  show V K 4 (kh0 K) 0 [(0, .ref t), (1, .int p1), (2, .int p2)] []
  generalize kh0 K = h at hd ⊢
  unfold M_X3_isLeaf at hd
  obtain ⟨-, hd⟩ := chk_some hd
  refine v_iconst (v := 0) X dX3_isLeaf_0 (by decide) ?_
  refine v_istore_n (lv2 := [(3, .int 0), (0, .ref t), (1, .int p1), (2, .int p2)]) X dX3_isLeaf_1 3 rfl (by decide) rfl ?_
  refine v_loc [1, 2, 3, 0] rfl ?_
  refine loop_ind hd (fun (s1 : Int32) h => V K 4 h 2 [(0, .ref t), (1, .int p1), (2, .int p2), (3, .int s1)] []) (fun s1 h x h2 hd hle0 ih2 ho3 => ?_)
  have hle := hle0.tr hle
  refine v_iload_n X dX3_isLeaf_2 3 3 rfl rfl ?_
  refine v_aload_n X dX3_isLeaf_3 0 0 rfl rfl ?_
  refine v_getR X hd fl_X3_12 dX3_isLeaf_4 (fun v4 hd => ?_)
  refine v_getI X hd fl_X3_29 dX3_isLeaf_7 (fun v5 hd => ?_)
  refine v_icmp_ge (tgt := 38) X dX3_isLeaf_10 (by decide) (fun q => ?_) (fun q => ?_)
  · have hd := ite_t q hd
    refine v_iconst (v := 0) X dX3_isLeaf_38 (by decide) ?_
    have hd := lp_out hd ho3
    exact v_zret X hd rfl ho dX3_isLeaf_39
  · have hd := ite_f q hd
    refine v_iload_n X dX3_isLeaf_13 3 3 rfl rfl ?_
    refine v_iload_n X dX3_isLeaf_14 2 2 rfl rfl ?_
    refine v_icmp_eq (tgt := 32) X dX3_isLeaf_15 (by decide) (fun q => ?_) (fun q => ?_)
    · have hd := ite_t q hd
      refine v_iincL (lv2 := fun v6 => [(3, .int v6), (0, .ref t), (1, .int p1), (2, .int p2)]) X hd dX3_isLeaf_32 3 rfl (by decide : Int32.ofInt 1 = 1) (by decide) (fun v6 => rfl) (fun v6 hd => ?_)
      refine v_goto (tgt := 2) X dX3_isLeaf_35 (by decide) ?_
      exact v_loc [1, 2, 3, 0] rfl (lp_in (P := fun (s1 : Int32) h => V K 4 h 2 [(0, .ref t), (1, .int p1), (2, .int p2), (3, .int s1)] []) hd ih2)
    · have hd := ite_f q hd
      refine v_aload_n X dX3_isLeaf_18 0 0 rfl rfl ?_
      refine v_iload_n X dX3_isLeaf_19 3 3 rfl rfl ?_
      refine v_callV X hd hle (ct_X3_leaf _ t s1) gCl_X3 (lw_V q1283 q1284 q1285 q113 q1286) ⟨rfl, dn_X3_leaf⟩ rfl ⟨by decide, by decide⟩ rfl (Nat.le_of_ble_eq_true rfl) dX3_isLeaf_20 (fun v7 h hd => ?_)
      show V K 4 h 23 [(0, .ref t), (1, .int p1), (2, .int p2), (3, .int s1)] [.ref v7]
      refine v_iload_n X dX3_isLeaf_23 1 1 rfl rfl ?_
      refine v_callV X hd hle (ct_X12_has _ v7 p1) gCl_X12 (lw_V q1288 q965 q966 q126 q967) ⟨rfl, dn_X12_has⟩ rfl ⟨by decide, by decide⟩ rfl (Nat.le_of_ble_eq_true rfl) dX3_isLeaf_24 (fun v8 h hd => ?_)
      show V K 4 h 27 [(0, .ref t), (1, .int p1), (2, .int p2), (3, .int s1)] [.int (b2i v8)]
      refine v_ifZ_eq (tgt := 32) X dX3_isLeaf_27 (by decide) (fun q => ?_) (fun q => ?_)
      · have hd := cnd_f q hd
        refine v_iincL (lv2 := fun v9 => [(3, .int v9), (0, .ref t), (1, .int p1), (2, .int p2)]) X hd dX3_isLeaf_32 3 rfl (by decide : Int32.ofInt 1 = 1) (by decide) (fun v9 => rfl) (fun v9 hd => ?_)
        refine v_goto (tgt := 2) X dX3_isLeaf_35 (by decide) ?_
        exact v_loc [1, 2, 3, 0] rfl (lp_in (P := fun (s1 : Int32) h => V K 4 h 2 [(0, .ref t), (1, .int p1), (2, .int p2), (3, .int s1)] []) hd ih2)
      · have hd := cnd_t q hd
        refine v_iconst (v := 1) X dX3_isLeaf_30 (by decide) ?_
        have hd := lp_out hd ho3
        exact v_zret X hd rfl ho dX3_isLeaf_31
def dkwX3_bar_4 : List UInt8 := [167, 255, 217, 3, 172]
abbrev dktX3_bar_4 : List UInt8 := dkwX3_bar_4 ++ []
def dkwX3_bar_3 : List UInt8 := [21, 5, 27, 182, 0, 73, 153, 0, 6, 16, 7, 172, 132, 4, 1, 45, 21, 4, 182, 0, 69, 54, 5]
abbrev dktX3_bar_3 : List UInt8 := dkwX3_bar_3 ++ dktX3_bar_4
def dkwX3_bar_2 : List UInt8 := [45, 3, 182, 0, 69, 54, 5, 21, 5, 2, 159, 0, 39, 21, 5, 42, 180, 0, 25, 159, 0, 13, 42]
abbrev dktX3_bar_2 : List UInt8 := dkwX3_bar_2 ++ dktX3_bar_3
def dkwX3_bar_1 : List UInt8 := [172, 42, 180, 0, 12, 180, 0, 32, 27, 50, 42, 180, 0, 18, 27, 46, 28, 182, 0, 49, 78, 3, 54, 4]
abbrev dktX3_bar_1 : List UInt8 := dkwX3_bar_1 ++ dktX3_bar_2
def dkwX3_bar_0 : List UInt8 := [42, 180, 0, 12, 180, 0, 32, 27, 50, 42, 180, 0, 18, 27, 46, 28, 182, 0, 66, 154, 0, 6, 16, 6]
abbrev dktX3_bar_0 : List UInt8 := dkwX3_bar_0 ++ dktX3_bar_1
theorem dksX3_bar_0 : cX3_bar.data.toList.drop 0 = dktX3_bar_0 := by decide +kernel
theorem dksX3_bar_1 : cX3_bar.data.toList.drop 24 = dktX3_bar_1 := dk_seg dksX3_bar_0 24 rfl rfl
theorem dksX3_bar_2 : cX3_bar.data.toList.drop 48 = dktX3_bar_2 := dk_seg dksX3_bar_1 24 rfl rfl
theorem dksX3_bar_3 : cX3_bar.data.toList.drop 71 = dktX3_bar_3 := dk_seg dksX3_bar_2 23 rfl rfl
theorem dksX3_bar_4 : cX3_bar.data.toList.drop 94 = dktX3_bar_4 := dk_seg dksX3_bar_3 23 rfl rfl
theorem dX3_bar_0 : decode cX3_bar 0 = .ok (.aload_n 0, 1) := dk_42 (dk_at dksX3_bar_0 0 rfl rfl)
theorem dX3_bar_1 : decode cX3_bar 1 = .ok (.getfield 12, 3) := dk_180 0 12 (dk_at dksX3_bar_0 1 rfl rfl)
theorem dX3_bar_4 : decode cX3_bar 4 = .ok (.getfield 32, 3) := dk_180 0 32 (dk_at dksX3_bar_0 4 rfl rfl)
theorem dX3_bar_7 : decode cX3_bar 7 = .ok (.iload_n 1, 1) := dk_27 (dk_at dksX3_bar_0 7 rfl rfl)
theorem dX3_bar_8 : decode cX3_bar 8 = .ok (.aaload, 1) := dk_50 (dk_at dksX3_bar_0 8 rfl rfl)
theorem dX3_bar_9 : decode cX3_bar 9 = .ok (.aload_n 0, 1) := dk_42 (dk_at dksX3_bar_0 9 rfl rfl)
theorem dX3_bar_10 : decode cX3_bar 10 = .ok (.getfield 18, 3) := dk_180 0 18 (dk_at dksX3_bar_0 10 rfl rfl)
theorem dX3_bar_13 : decode cX3_bar 13 = .ok (.iload_n 1, 1) := dk_27 (dk_at dksX3_bar_0 13 rfl rfl)
theorem dX3_bar_14 : decode cX3_bar 14 = .ok (.iaload, 1) := dk_46 (dk_at dksX3_bar_0 14 rfl rfl)
theorem dX3_bar_15 : decode cX3_bar 15 = .ok (.iload_n 2, 1) := dk_28 (dk_at dksX3_bar_0 15 rfl rfl)
theorem dX3_bar_16 : decode cX3_bar 16 = .ok (.invokevirtual 66, 3) := dk_182 0 66 (dk_at dksX3_bar_0 16 rfl rfl)
theorem dX3_bar_19 : decode cX3_bar 19 = .ok (.ifCond .ne 6, 3) := dk_154 0 6 (dk_at dksX3_bar_0 19 rfl rfl)
theorem dX3_bar_22 : decode cX3_bar 22 = .ok (.bipush 6, 2) := dk_16 6 (dk_at dksX3_bar_0 22 rfl rfl)
theorem dX3_bar_24 : decode cX3_bar 24 = .ok (.ireturn, 1) := dk_172 (dk_at dksX3_bar_1 0 rfl rfl)
theorem dX3_bar_25 : decode cX3_bar 25 = .ok (.aload_n 0, 1) := dk_42 (dk_at dksX3_bar_1 1 rfl rfl)
theorem dX3_bar_26 : decode cX3_bar 26 = .ok (.getfield 12, 3) := dk_180 0 12 (dk_at dksX3_bar_1 2 rfl rfl)
theorem dX3_bar_29 : decode cX3_bar 29 = .ok (.getfield 32, 3) := dk_180 0 32 (dk_at dksX3_bar_1 5 rfl rfl)
theorem dX3_bar_32 : decode cX3_bar 32 = .ok (.iload_n 1, 1) := dk_27 (dk_at dksX3_bar_1 8 rfl rfl)
theorem dX3_bar_33 : decode cX3_bar 33 = .ok (.aaload, 1) := dk_50 (dk_at dksX3_bar_1 9 rfl rfl)
theorem dX3_bar_34 : decode cX3_bar 34 = .ok (.aload_n 0, 1) := dk_42 (dk_at dksX3_bar_1 10 rfl rfl)
theorem dX3_bar_35 : decode cX3_bar 35 = .ok (.getfield 18, 3) := dk_180 0 18 (dk_at dksX3_bar_1 11 rfl rfl)
theorem dX3_bar_38 : decode cX3_bar 38 = .ok (.iload_n 1, 1) := dk_27 (dk_at dksX3_bar_1 14 rfl rfl)
theorem dX3_bar_39 : decode cX3_bar 39 = .ok (.iaload, 1) := dk_46 (dk_at dksX3_bar_1 15 rfl rfl)
theorem dX3_bar_40 : decode cX3_bar 40 = .ok (.iload_n 2, 1) := dk_28 (dk_at dksX3_bar_1 16 rfl rfl)
theorem dX3_bar_41 : decode cX3_bar 41 = .ok (.invokevirtual 49, 3) := dk_182 0 49 (dk_at dksX3_bar_1 17 rfl rfl)
theorem dX3_bar_44 : decode cX3_bar 44 = .ok (.astore_n 3, 1) := dk_78 (dk_at dksX3_bar_1 20 rfl rfl)
theorem dX3_bar_45 : decode cX3_bar 45 = .ok (.iconst 0, 1) := dk_3 (dk_at dksX3_bar_1 21 rfl rfl)
theorem dX3_bar_46 : decode cX3_bar 46 = .ok (.istore 4, 2) := dk_54 4 (dk_at dksX3_bar_1 22 rfl rfl)
theorem dX3_bar_48 : decode cX3_bar 48 = .ok (.aload_n 3, 1) := dk_45 (dk_at dksX3_bar_2 0 rfl rfl)
theorem dX3_bar_49 : decode cX3_bar 49 = .ok (.iconst 0, 1) := dk_3 (dk_at dksX3_bar_2 1 rfl rfl)
theorem dX3_bar_50 : decode cX3_bar 50 = .ok (.invokevirtual 69, 3) := dk_182 0 69 (dk_at dksX3_bar_2 2 rfl rfl)
theorem dX3_bar_53 : decode cX3_bar 53 = .ok (.istore 5, 2) := dk_54 5 (dk_at dksX3_bar_2 5 rfl rfl)
theorem dX3_bar_55 : decode cX3_bar 55 = .ok (.iload 5, 2) := dk_21 5 (dk_at dksX3_bar_2 7 rfl rfl)
theorem dX3_bar_57 : decode cX3_bar 57 = .ok (.iconst (-1), 1) := dk_2 (dk_at dksX3_bar_2 9 rfl rfl)
theorem dX3_bar_58 : decode cX3_bar 58 = .ok (.if_icmp .eq 39, 3) := dk_159 0 39 (dk_at dksX3_bar_2 10 rfl rfl)
theorem dX3_bar_61 : decode cX3_bar 61 = .ok (.iload 5, 2) := dk_21 5 (dk_at dksX3_bar_2 13 rfl rfl)
theorem dX3_bar_63 : decode cX3_bar 63 = .ok (.aload_n 0, 1) := dk_42 (dk_at dksX3_bar_2 15 rfl rfl)
theorem dX3_bar_64 : decode cX3_bar 64 = .ok (.getfield 25, 3) := dk_180 0 25 (dk_at dksX3_bar_2 16 rfl rfl)
theorem dX3_bar_67 : decode cX3_bar 67 = .ok (.if_icmp .eq 13, 3) := dk_159 0 13 (dk_at dksX3_bar_2 19 rfl rfl)
theorem dX3_bar_70 : decode cX3_bar 70 = .ok (.aload_n 0, 1) := dk_42 (dk_at dksX3_bar_2 22 rfl rfl)
theorem dX3_bar_71 : decode cX3_bar 71 = .ok (.iload 5, 2) := dk_21 5 (dk_at dksX3_bar_3 0 rfl rfl)
theorem dX3_bar_73 : decode cX3_bar 73 = .ok (.iload_n 1, 1) := dk_27 (dk_at dksX3_bar_3 2 rfl rfl)
theorem dX3_bar_74 : decode cX3_bar 74 = .ok (.invokevirtual 73, 3) := dk_182 0 73 (dk_at dksX3_bar_3 3 rfl rfl)
theorem dX3_bar_77 : decode cX3_bar 77 = .ok (.ifCond .eq 6, 3) := dk_153 0 6 (dk_at dksX3_bar_3 6 rfl rfl)
theorem dX3_bar_80 : decode cX3_bar 80 = .ok (.bipush 7, 2) := dk_16 7 (dk_at dksX3_bar_3 9 rfl rfl)
theorem dX3_bar_82 : decode cX3_bar 82 = .ok (.ireturn, 1) := dk_172 (dk_at dksX3_bar_3 11 rfl rfl)
theorem dX3_bar_83 : decode cX3_bar 83 = .ok (.iinc 4 1, 3) := dk_132 4 1 (dk_at dksX3_bar_3 12 rfl rfl)
theorem dX3_bar_86 : decode cX3_bar 86 = .ok (.aload_n 3, 1) := dk_45 (dk_at dksX3_bar_3 15 rfl rfl)
theorem dX3_bar_87 : decode cX3_bar 87 = .ok (.iload 4, 2) := dk_21 4 (dk_at dksX3_bar_3 16 rfl rfl)
theorem dX3_bar_89 : decode cX3_bar 89 = .ok (.invokevirtual 69, 3) := dk_182 0 69 (dk_at dksX3_bar_3 18 rfl rfl)
theorem dX3_bar_92 : decode cX3_bar 92 = .ok (.istore 5, 2) := dk_54 5 (dk_at dksX3_bar_3 21 rfl rfl)
theorem dX3_bar_94 : decode cX3_bar 94 = .ok (.goto (-39), 3) := dk_167 255 217 (dk_at dksX3_bar_4 0 rfl rfl)
theorem dX3_bar_97 : decode cX3_bar 97 = .ok (.iconst 0, 1) := dk_3 (dk_at dksX3_bar_4 3 rfl rfl)
theorem dX3_bar_98 : decode cX3_bar 98 = .ok (.ireturn, 1) := dk_172 (dk_at dksX3_bar_4 4 rfl rfl)
theorem dn_X3_bar : yX3_bar.cls ≠ "java/lang/invoke/MethodHandle" ∧ yX3_bar.cls ≠ "java/lang/invoke/VarHandle" ∧ (parseMethodDescriptor yX3_bar.desc).map (fun d => d.parameters.length) = some 2 := by decide +kernel
noncomputable def M_X3_bar (t : Nat) (p1 : Int32) (p2 : Int32) : Mo Int32 := Mo.bind (chk [2] t) (fun _ => Mo.bind (gR [2] t 0) (fun v1 => Mo.bind (gR [3] v1 2) (fun v2 => Mo.bind (aldR 5 v2 p1) (fun v3 => Mo.bind (gR [2] t 1) (fun v4 => Mo.bind (aldI 0 v4 p1) (fun v5 => Mo.bind (M_X11_can v3 v5 p2) (fun v6 => cond v6 (Mo.bind (gR [2] t 0) (fun v7 => Mo.bind (gR [3] v7 2) (fun v8 => Mo.bind (aldR 5 v8 p1) (fun v9 => Mo.bind (gR [2] t 1) (fun v10 => Mo.bind (aldI 0 v10 p1) (fun v11 => Mo.bind (M_X11_leaf_2 v9 v11 p2) (fun v12 => Mo.bind (M_X12_get v12 0) (fun v13 => Mo.loop (S := Int32 × Int32) (fun s14 => if s14.2 = (-1) then Mo.pure (Sum.inr 0) else Mo.bind (gI [2] t 3) (fun v17 => if s14.2 = v17 then Mo.pure (Sum.inr 7) else Mo.bind (M_X3_isLeaf t s14.2 p1) (fun v18 => cond v18 (Mo.pure (Sum.inr 7)) (Mo.lv (s14.1 + 1) (fun v19 => Mo.bind (M_X12_get v12 v19) (fun v20 => Mo.pure (Sum.inl (v19, v20)))))))) (0, v13))))))))) (Mo.pure 6))))))))
set_option maxHeartbeats 4000000 in
theorem ct_X3_bar (G : gG) (t : Nat) (p1 : Int32) (p2 : Int32) : gCt G yX3_bar cX3_bar 6 (some .int) 3 66 [.ref t, .int p1, .int p2] (M_X3_bar t p1 p2) (fun x : Int32 => some (.int x)) := by
  refine gCt.of (by decide) (Nat.le_of_ble_eq_true rfl) (fun K r hG X hd ho => ?_)
  subst hG
  have X : gX K cX3_bar 6 "BitingDoors$Walker" "bar" (some .int) 3 66 := X
  have hle : gLe (kh1 K) (kh1 K) := gLe.rf
  show V K 6 (kh0 K) 0 [(0, .ref t), (1, .int p1), (2, .int p2)] []
  generalize kh0 K = h at hd ⊢
  unfold M_X3_bar at hd
  obtain ⟨-, hd⟩ := chk_some hd
  refine v_aload_n X dX3_bar_0 0 0 rfl rfl ?_
  refine v_getR X hd fl_X3_12 dX3_bar_1 (fun v1 hd => ?_)
  refine v_getR X hd fl_X3_32 dX3_bar_4 (fun v2 hd => ?_)
  refine v_iload_n X dX3_bar_7 1 1 rfl rfl ?_
  refine v_aldR X hd 5 rfl (by decide) (by decide) dX3_bar_8 (fun v3 hd => ?_)
  refine v_aload_n X dX3_bar_9 0 0 rfl rfl ?_
  refine v_getR X hd fl_X3_18 dX3_bar_10 (fun v4 hd => ?_)
  refine v_iload_n X dX3_bar_13 1 1 rfl rfl ?_
  refine v_iald X hd dX3_bar_14 (fun v5 hd => ?_)
  refine v_iload_n X dX3_bar_15 2 2 rfl rfl ?_
  refine v_callV X hd hle (ct_X11_can _ v3 v5 p2) gCl_X11 (lw_V q1320 q1142 q1143 q125 q1144) ⟨rfl, dn_X11_can⟩ rfl ⟨by decide, by decide⟩ rfl (Nat.le_of_ble_eq_true rfl) dX3_bar_16 (fun v6 h hd => ?_)
  show V K 6 h 19 [(0, .ref t), (1, .int p1), (2, .int p2)] [.int (b2i v6)]
  refine v_ifZ_ne (tgt := 25) X dX3_bar_19 (by decide) (fun q => ?_) (fun q => ?_)
  · have hd := cnd_t q hd
    refine v_aload_n X dX3_bar_25 0 0 rfl rfl ?_
    refine v_getR X hd fl_X3_12 dX3_bar_26 (fun v7 hd => ?_)
    refine v_getR X hd fl_X3_32 dX3_bar_29 (fun v8 hd => ?_)
    refine v_iload_n X dX3_bar_32 1 1 rfl rfl ?_
    refine v_aldR X hd 5 rfl (by decide) (by decide) dX3_bar_33 (fun v9 hd => ?_)
    refine v_aload_n X dX3_bar_34 0 0 rfl rfl ?_
    refine v_getR X hd fl_X3_18 dX3_bar_35 (fun v10 hd => ?_)
    refine v_iload_n X dX3_bar_38 1 1 rfl rfl ?_
    refine v_iald X hd dX3_bar_39 (fun v11 hd => ?_)
    refine v_iload_n X dX3_bar_40 2 2 rfl rfl ?_
    refine v_callV X hd hle (ct_X11_leaf_2 _ v9 v11 p2) gCl_X11 (lw_V q1287 q979 q980 q125 q981) ⟨rfl, dn_X11_leaf_2⟩ rfl ⟨by decide, by decide⟩ rfl (Nat.le_of_ble_eq_true rfl) dX3_bar_41 (fun v12 h hd => ?_)
    show V K 6 h 44 [(0, .ref t), (1, .int p1), (2, .int p2)] [.ref v12]
    refine v_astore_n (lv2 := [(3, .ref v12), (0, .ref t), (1, .int p1), (2, .int p2)]) X dX3_bar_44 3 rfl (by decide) rfl ?_
    refine v_iconst (v := 0) X dX3_bar_45 (by decide) ?_
    refine v_istore (lv2 := [(4, .int 0), (3, .ref v12), (0, .ref t), (1, .int p1), (2, .int p2)]) X dX3_bar_46 (by decide) rfl ?_
    refine v_aload_n X dX3_bar_48 1 3 rfl rfl ?_
    refine v_iconst (v := 0) X dX3_bar_49 (by decide) ?_
    refine v_callV X hd hle (ct_X12_get _ v12 0) gCl_X12 (lw_V q1321 q987 q988 q126 q989) ⟨rfl, dn_X12_get⟩ rfl ⟨by decide, by decide⟩ rfl (Nat.le_of_ble_eq_true rfl) dX3_bar_50 (fun v13 h hd => ?_)
    show V K 6 h 53 [(4, .int 0), (3, .ref v12), (0, .ref t), (1, .int p1), (2, .int p2)] [.int v13]
    refine v_istore (lv2 := [(5, .int v13), (4, .int 0), (3, .ref v12), (0, .ref t), (1, .int p1), (2, .int p2)]) X dX3_bar_53 (by decide) rfl ?_
    refine v_loc [3, 4, 2, 1, 0] rfl ?_
    refine loop_ind hd (fun (s14 : Int32 × Int32) h => V K 6 h 55 [(0, .ref t), (1, .int p1), (3, .ref v12), (4, .int s14.1), (5, .int s14.2)] []) (fun s14 h x h2 hd hle0 ih15 ho16 => ?_)
    have hle := hle0.tr hle
    refine v_iload X dX3_bar_55 4 rfl ?_
    refine v_iconst (v := (-1)) X dX3_bar_57 (by decide) ?_
    refine v_icmp_eq (tgt := 97) X dX3_bar_58 (by decide) (fun q => ?_) (fun q => ?_)
    · have hd := ite_t q hd
      refine v_iconst (v := 0) X dX3_bar_97 (by decide) ?_
      have hd := lp_out hd ho16
      exact v_iret X hd ho dX3_bar_98
    · have hd := ite_f q hd
      refine v_iload X dX3_bar_61 4 rfl ?_
      refine v_aload_n X dX3_bar_63 0 0 rfl rfl ?_
      refine v_getI X hd fl_X3_25 dX3_bar_64 (fun v17 hd => ?_)
      refine v_icmp_eq (tgt := 80) X dX3_bar_67 (by decide) (fun q => ?_) (fun q => ?_)
      · have hd := ite_t q hd
        refine v_bipush (v := 7) X dX3_bar_80 (by decide) ?_
        have hd := lp_out hd ho16
        exact v_iret X hd ho dX3_bar_82
      · have hd := ite_f q hd
        refine v_aload_n X dX3_bar_70 0 0 rfl rfl ?_
        refine v_iload X dX3_bar_71 4 rfl ?_
        refine v_iload_n X dX3_bar_73 1 1 rfl rfl ?_
        refine v_callV X hd hle (ct_X3_isLeaf _ t s14.2 p1) gCl_X3 (lw_V q1311 q1280 q1281 q113 q1282) ⟨rfl, dn_X3_isLeaf⟩ rfl ⟨by decide, by decide⟩ rfl (Nat.le_of_ble_eq_true rfl) dX3_bar_74 (fun v18 h hd => ?_)
        show V K 6 h 77 [(0, .ref t), (1, .int p1), (3, .ref v12), (4, .int s14.1), (5, .int s14.2)] [.int (b2i v18)]
        refine v_ifZ_eq (tgt := 83) X dX3_bar_77 (by decide) (fun q => ?_) (fun q => ?_)
        · have hd := cnd_f q hd
          refine v_iincL (lv2 := fun v19 => [(4, .int v19), (0, .ref t), (1, .int p1), (3, .ref v12), (5, .int s14.2)]) X hd dX3_bar_83 3 rfl (by decide : Int32.ofInt 1 = 1) (by decide) (fun v19 => rfl) (fun v19 hd => ?_)
          refine v_aload_n X dX3_bar_86 3 3 rfl rfl ?_
          refine v_iload X dX3_bar_87 0 rfl ?_
          refine v_callV X hd hle (ct_X12_get _ v12 v19) gCl_X12 (lw_V q1321 q987 q988 q126 q989) ⟨rfl, dn_X12_get⟩ rfl ⟨by decide, by decide⟩ rfl (Nat.le_of_ble_eq_true rfl) dX3_bar_89 (fun v20 h hd => ?_)
          show V K 6 h 92 [(4, .int v19), (0, .ref t), (1, .int p1), (3, .ref v12), (5, .int s14.2)] [.int v20]
          refine v_istore (lv2 := [(5, .int v20), (4, .int v19), (0, .ref t), (1, .int p1), (3, .ref v12)]) X dX3_bar_92 (by decide) rfl ?_
          refine v_goto (tgt := 55) X dX3_bar_94 (by decide) ?_
          exact v_loc [2, 3, 4, 1, 0] rfl (lp_in (P := fun (s14 : Int32 × Int32) h => V K 6 h 55 [(0, .ref t), (1, .int p1), (3, .ref v12), (4, .int s14.1), (5, .int s14.2)] []) hd ih15)
        · have hd := cnd_t q hd
          refine v_bipush (v := 7) X dX3_bar_80 (by decide) ?_
          have hd := lp_out hd ho16
          exact v_iret X hd ho dX3_bar_82
  · have hd := cnd_f q hd
    refine v_bipush (v := 6) X dX3_bar_22 (by decide) ?_
    exact v_iret X hd ho dX3_bar_24
def dkwX3_blows_2 : List UInt8 := [29, 92, 46, 4, 100, 79, 42, 89, 180, 0, 112, 4, 96, 181, 0, 112, 177]
abbrev dktX3_blows_2 : List UInt8 := dkwX3_blows_2 ++ []
def dkwX3_blows_1 : List UInt8 := [153, 0, 19, 42, 29, 42, 180, 0, 22, 29, 46, 4, 100, 182, 0, 88, 158, 0, 4, 177, 42, 180, 0, 22]
abbrev dktX3_blows_1 : List UInt8 := dkwX3_blows_1 ++ dktX3_blows_2
def dkwX3_blows_0 : List UInt8 := [42, 180, 0, 22, 27, 46, 153, 0, 37, 42, 180, 0, 22, 28, 46, 153, 0, 28, 42, 180, 0, 22, 29, 46]
abbrev dktX3_blows_0 : List UInt8 := dkwX3_blows_0 ++ dktX3_blows_1
theorem dksX3_blows_0 : cX3_blows.data.toList.drop 0 = dktX3_blows_0 := by decide +kernel
theorem dksX3_blows_1 : cX3_blows.data.toList.drop 24 = dktX3_blows_1 := dk_seg dksX3_blows_0 24 rfl rfl
theorem dksX3_blows_2 : cX3_blows.data.toList.drop 48 = dktX3_blows_2 := dk_seg dksX3_blows_1 24 rfl rfl
theorem dX3_blows_0 : decode cX3_blows 0 = .ok (.aload_n 0, 1) := dk_42 (dk_at dksX3_blows_0 0 rfl rfl)
theorem dX3_blows_1 : decode cX3_blows 1 = .ok (.getfield 22, 3) := dk_180 0 22 (dk_at dksX3_blows_0 1 rfl rfl)
theorem dX3_blows_4 : decode cX3_blows 4 = .ok (.iload_n 1, 1) := dk_27 (dk_at dksX3_blows_0 4 rfl rfl)
theorem dX3_blows_5 : decode cX3_blows 5 = .ok (.iaload, 1) := dk_46 (dk_at dksX3_blows_0 5 rfl rfl)
theorem dX3_blows_6 : decode cX3_blows 6 = .ok (.ifCond .eq 37, 3) := dk_153 0 37 (dk_at dksX3_blows_0 6 rfl rfl)
theorem dX3_blows_9 : decode cX3_blows 9 = .ok (.aload_n 0, 1) := dk_42 (dk_at dksX3_blows_0 9 rfl rfl)
theorem dX3_blows_10 : decode cX3_blows 10 = .ok (.getfield 22, 3) := dk_180 0 22 (dk_at dksX3_blows_0 10 rfl rfl)
theorem dX3_blows_13 : decode cX3_blows 13 = .ok (.iload_n 2, 1) := dk_28 (dk_at dksX3_blows_0 13 rfl rfl)
theorem dX3_blows_14 : decode cX3_blows 14 = .ok (.iaload, 1) := dk_46 (dk_at dksX3_blows_0 14 rfl rfl)
theorem dX3_blows_15 : decode cX3_blows 15 = .ok (.ifCond .eq 28, 3) := dk_153 0 28 (dk_at dksX3_blows_0 15 rfl rfl)
theorem dX3_blows_18 : decode cX3_blows 18 = .ok (.aload_n 0, 1) := dk_42 (dk_at dksX3_blows_0 18 rfl rfl)
theorem dX3_blows_19 : decode cX3_blows 19 = .ok (.getfield 22, 3) := dk_180 0 22 (dk_at dksX3_blows_0 19 rfl rfl)
theorem dX3_blows_22 : decode cX3_blows 22 = .ok (.iload_n 3, 1) := dk_29 (dk_at dksX3_blows_0 22 rfl rfl)
theorem dX3_blows_23 : decode cX3_blows 23 = .ok (.iaload, 1) := dk_46 (dk_at dksX3_blows_0 23 rfl rfl)
theorem dX3_blows_24 : decode cX3_blows 24 = .ok (.ifCond .eq 19, 3) := dk_153 0 19 (dk_at dksX3_blows_1 0 rfl rfl)
theorem dX3_blows_27 : decode cX3_blows 27 = .ok (.aload_n 0, 1) := dk_42 (dk_at dksX3_blows_1 3 rfl rfl)
theorem dX3_blows_28 : decode cX3_blows 28 = .ok (.iload_n 3, 1) := dk_29 (dk_at dksX3_blows_1 4 rfl rfl)
theorem dX3_blows_29 : decode cX3_blows 29 = .ok (.aload_n 0, 1) := dk_42 (dk_at dksX3_blows_1 5 rfl rfl)
theorem dX3_blows_30 : decode cX3_blows 30 = .ok (.getfield 22, 3) := dk_180 0 22 (dk_at dksX3_blows_1 6 rfl rfl)
theorem dX3_blows_33 : decode cX3_blows 33 = .ok (.iload_n 3, 1) := dk_29 (dk_at dksX3_blows_1 9 rfl rfl)
theorem dX3_blows_34 : decode cX3_blows 34 = .ok (.iaload, 1) := dk_46 (dk_at dksX3_blows_1 10 rfl rfl)
theorem dX3_blows_35 : decode cX3_blows 35 = .ok (.iconst 1, 1) := dk_4 (dk_at dksX3_blows_1 11 rfl rfl)
theorem dX3_blows_36 : decode cX3_blows 36 = .ok (.isub, 1) := dk_100 (dk_at dksX3_blows_1 12 rfl rfl)
theorem dX3_blows_37 : decode cX3_blows 37 = .ok (.invokevirtual 88, 3) := dk_182 0 88 (dk_at dksX3_blows_1 13 rfl rfl)
theorem dX3_blows_40 : decode cX3_blows 40 = .ok (.ifCond .le 4, 3) := dk_158 0 4 (dk_at dksX3_blows_1 16 rfl rfl)
theorem dX3_blows_43 : decode cX3_blows 43 = .ok (.return_, 1) := dk_177 (dk_at dksX3_blows_1 19 rfl rfl)
theorem dX3_blows_44 : decode cX3_blows 44 = .ok (.aload_n 0, 1) := dk_42 (dk_at dksX3_blows_1 20 rfl rfl)
theorem dX3_blows_45 : decode cX3_blows 45 = .ok (.getfield 22, 3) := dk_180 0 22 (dk_at dksX3_blows_1 21 rfl rfl)
theorem dX3_blows_48 : decode cX3_blows 48 = .ok (.iload_n 3, 1) := dk_29 (dk_at dksX3_blows_2 0 rfl rfl)
theorem dX3_blows_49 : decode cX3_blows 49 = .ok (.dup2, 1) := dk_92 (dk_at dksX3_blows_2 1 rfl rfl)
theorem dX3_blows_50 : decode cX3_blows 50 = .ok (.iaload, 1) := dk_46 (dk_at dksX3_blows_2 2 rfl rfl)
theorem dX3_blows_51 : decode cX3_blows 51 = .ok (.iconst 1, 1) := dk_4 (dk_at dksX3_blows_2 3 rfl rfl)
theorem dX3_blows_52 : decode cX3_blows 52 = .ok (.isub, 1) := dk_100 (dk_at dksX3_blows_2 4 rfl rfl)
theorem dX3_blows_53 : decode cX3_blows 53 = .ok (.iastore, 1) := dk_79 (dk_at dksX3_blows_2 5 rfl rfl)
theorem dX3_blows_54 : decode cX3_blows 54 = .ok (.aload_n 0, 1) := dk_42 (dk_at dksX3_blows_2 6 rfl rfl)
theorem dX3_blows_55 : decode cX3_blows 55 = .ok (.dup, 1) := dk_89 (dk_at dksX3_blows_2 7 rfl rfl)
theorem dX3_blows_56 : decode cX3_blows 56 = .ok (.getfield 112, 3) := dk_180 0 112 (dk_at dksX3_blows_2 8 rfl rfl)
theorem dX3_blows_59 : decode cX3_blows 59 = .ok (.iconst 1, 1) := dk_4 (dk_at dksX3_blows_2 11 rfl rfl)
theorem dX3_blows_60 : decode cX3_blows 60 = .ok (.iadd, 1) := dk_96 (dk_at dksX3_blows_2 12 rfl rfl)
theorem dX3_blows_61 : decode cX3_blows 61 = .ok (.putfield 112, 3) := dk_181 0 112 (dk_at dksX3_blows_2 13 rfl rfl)
theorem dX3_blows_64 : decode cX3_blows 64 = .ok (.return_, 1) := dk_177 (dk_at dksX3_blows_2 16 rfl rfl)
theorem fl_X3_112 : gFl "BitingDoors$Walker" 112 [2] 5 := by
  intro args s hts hN ci hc
  simp only [List.mem_cons, List.not_mem_nil, or_false] at hc
  subst hc
  exact ⟨RX3, TX3, 6, "BitingDoors$Walker", gCl_X3, in_X3, by decide, Or.inl (hts _ q343), fun _ h => h⟩
theorem fp_X3_112 {nm : String} : gFp "BitingDoors$Walker" nm 112 [2] 5 .int := by
  intro args s hts hN ci hc
  simp only [List.mem_cons, List.not_mem_nil, or_false] at hc
  subst hc
  exact ⟨RX3, TX3, 6, "BitingDoors$Walker", gCl_X3, in_X3, by decide, Or.inl ⟨rfl, Or.inl (hts _ q343)⟩, fun _ h => h, rfl, fun D tys hK => gap_X3 hts hK⟩
theorem dn_X3_blows : yX3_blows.cls ≠ "java/lang/invoke/MethodHandle" ∧ yX3_blows.cls ≠ "java/lang/invoke/VarHandle" ∧ (parseMethodDescriptor yX3_blows.desc).map (fun d => d.parameters.length) = some 3 := by decide +kernel
noncomputable def M_X3_blows (t : Nat) (p1 : Int32) (p2 : Int32) (p3 : Int32) : Mo Unit := Mo.bind (chk [2] t) (fun _ => Mo.bind (gR [2] t 2) (fun v1 => Mo.bind (aldI 0 v1 p1) (fun v2 => if v2 = 0 then Mo.pure () else Mo.bind (gR [2] t 2) (fun v3 => Mo.bind (aldI 0 v3 p2) (fun v4 => if v4 = 0 then Mo.pure () else Mo.bind (gR [2] t 2) (fun v5 => Mo.bind (aldI 0 v5 p3) (fun v6 => if v6 = 0 then Mo.pure () else Mo.bind (gR [2] t 2) (fun v7 => Mo.bind (aldI 0 v7 p3) (fun v8 => Mo.bind (M_X3_bar t p3 (v8 - 1)) (fun v9 => if v9 ≤ 0 then Mo.bind (gR [2] t 2) (fun v10 => Mo.bind (aldI 0 v10 p3) (fun v11 => Mo.bind (astI 0 v10 p3 (v11 - 1)) (fun _ => Mo.bind (gI [2] t 5) (fun v12 => Mo.bind (pF [2] t 5 (.int (v12 + 1))) (fun _ => Mo.pure ()))))) else Mo.pure ()))))))))))
set_option maxHeartbeats 4000000 in
theorem ct_X3_blows (G : gG) (t : Nat) (p1 : Int32) (p2 : Int32) (p3 : Int32) : gCt G yX3_blows cX3_blows 4 none 4 91 [.ref t, .int p1, .int p2, .int p3] (M_X3_blows t p1 p2 p3) (fun _ : Unit => none) := by
  refine gCt.of (by decide) (Nat.le_of_ble_eq_true rfl) (fun K r hG X hd ho => ?_)
  subst hG
  have X : gX K cX3_blows 4 "BitingDoors$Walker" "blows" none 4 91 := X
  have hle : gLe (kh1 K) (kh1 K) := gLe.rf
  show V K 4 (kh0 K) 0 [(0, .ref t), (1, .int p1), (2, .int p2), (3, .int p3)] []
  generalize kh0 K = h at hd ⊢
  unfold M_X3_blows at hd
  obtain ⟨-, hd⟩ := chk_some hd
  refine v_aload_n X dX3_blows_0 0 0 rfl rfl ?_
  refine v_getR X hd fl_X3_22 dX3_blows_1 (fun v1 hd => ?_)
  refine v_iload_n X dX3_blows_4 1 1 rfl rfl ?_
  refine v_iald X hd dX3_blows_5 (fun v2 hd => ?_)
  refine v_if_eq (tgt := 43) X dX3_blows_6 (by decide) (fun q => ?_) (fun q => ?_)
  · have hd := ite_t q hd
    exact v_vret X hd ho dX3_blows_43
  · have hd := ite_f q hd
    refine v_aload_n X dX3_blows_9 0 0 rfl rfl ?_
    refine v_getR X hd fl_X3_22 dX3_blows_10 (fun v3 hd => ?_)
    refine v_iload_n X dX3_blows_13 2 2 rfl rfl ?_
    refine v_iald X hd dX3_blows_14 (fun v4 hd => ?_)
    refine v_if_eq (tgt := 43) X dX3_blows_15 (by decide) (fun q => ?_) (fun q => ?_)
    · have hd := ite_t q hd
      exact v_vret X hd ho dX3_blows_43
    · have hd := ite_f q hd
      refine v_aload_n X dX3_blows_18 0 0 rfl rfl ?_
      refine v_getR X hd fl_X3_22 dX3_blows_19 (fun v5 hd => ?_)
      refine v_iload_n X dX3_blows_22 3 3 rfl rfl ?_
      refine v_iald X hd dX3_blows_23 (fun v6 hd => ?_)
      refine v_if_eq (tgt := 43) X dX3_blows_24 (by decide) (fun q => ?_) (fun q => ?_)
      · have hd := ite_t q hd
        exact v_vret X hd ho dX3_blows_43
      · have hd := ite_f q hd
        refine v_aload_n X dX3_blows_27 0 0 rfl rfl ?_
        refine v_iload_n X dX3_blows_28 3 3 rfl rfl ?_
        refine v_aload_n X dX3_blows_29 0 0 rfl rfl ?_
        refine v_getR X hd fl_X3_22 dX3_blows_30 (fun v7 hd => ?_)
        refine v_iload_n X dX3_blows_33 3 3 rfl rfl ?_
        refine v_iald X hd dX3_blows_34 (fun v8 hd => ?_)
        refine v_iconst (v := 1) X dX3_blows_35 (by decide) ?_
        refine v_isub X dX3_blows_36 ?_
        refine v_callV X hd hle (ct_X3_bar _ t p3 (v8 - 1)) gCl_X3 (lw_V q1316 q1318 qs24 q113 q1319) ⟨rfl, dn_X3_bar⟩ rfl ⟨by decide, by decide⟩ rfl (Nat.le_of_ble_eq_true rfl) dX3_blows_37 (fun v9 h hd => ?_)
        show V K 4 h 40 [(0, .ref t), (1, .int p1), (2, .int p2), (3, .int p3)] [.int v9]
        refine v_if_le (tgt := 44) X dX3_blows_40 (by decide) (fun q => ?_) (fun q => ?_)
        · have hd := ite_t q hd
          refine v_aload_n X dX3_blows_44 0 0 rfl rfl ?_
          refine v_getR X hd fl_X3_22 dX3_blows_45 (fun v10 hd => ?_)
          refine v_iload_n X dX3_blows_48 3 3 rfl rfl ?_
          refine v_dup2 X dX3_blows_49 rfl rfl ?_
          refine v_iald X hd dX3_blows_50 (fun v11 hd => ?_)
          refine v_iconst (v := 1) X dX3_blows_51 (by decide) ?_
          refine v_isub X dX3_blows_52 ?_
          refine v_iast X hd dX3_blows_53 (fun h hd => ?_)
          refine v_aload_n X dX3_blows_54 0 0 rfl rfl ?_
          refine v_dup X dX3_blows_55 rfl ?_
          refine v_getI X hd fl_X3_112 dX3_blows_56 (fun v12 hd => ?_)
          refine v_iconst (v := 1) X dX3_blows_59 (by decide) ?_
          refine v_iadd X dX3_blows_60 ?_
          refine v_put (v := .int (v12 + 1)) X hd fp_X3_112 rfl rfl dX3_blows_61 (fun h hd => ?_)
          exact v_vret X hd ho dX3_blows_64
        · have hd := ite_f q hd
          exact v_vret X hd ho dX3_blows_43
def dkwX4_isOpen_1 : List UInt8 := [4, 167, 0, 4, 3, 172]
abbrev dktX4_isOpen_1 : List UInt8 := dkwX4_isOpen_1 ++ []
def dkwX4_isOpen_0 : List UInt8 := [27, 155, 0, 27, 42, 180, 0, 9, 27, 46, 153, 0, 14, 42, 180, 0, 9, 27, 46, 16, 10, 161, 0, 7]
abbrev dktX4_isOpen_0 : List UInt8 := dkwX4_isOpen_0 ++ dktX4_isOpen_1
theorem dksX4_isOpen_0 : cX4_isOpen.data.toList.drop 0 = dktX4_isOpen_0 := by decide +kernel
theorem dksX4_isOpen_1 : cX4_isOpen.data.toList.drop 24 = dktX4_isOpen_1 := dk_seg dksX4_isOpen_0 24 rfl rfl
theorem dX4_isOpen_0 : decode cX4_isOpen 0 = .ok (.iload_n 1, 1) := dk_27 (dk_at dksX4_isOpen_0 0 rfl rfl)
theorem dX4_isOpen_1 : decode cX4_isOpen 1 = .ok (.ifCond .lt 27, 3) := dk_155 0 27 (dk_at dksX4_isOpen_0 1 rfl rfl)
theorem dX4_isOpen_4 : decode cX4_isOpen 4 = .ok (.aload_n 0, 1) := dk_42 (dk_at dksX4_isOpen_0 4 rfl rfl)
theorem dX4_isOpen_5 : decode cX4_isOpen 5 = .ok (.getfield 9, 3) := dk_180 0 9 (dk_at dksX4_isOpen_0 5 rfl rfl)
theorem dX4_isOpen_8 : decode cX4_isOpen 8 = .ok (.iload_n 1, 1) := dk_27 (dk_at dksX4_isOpen_0 8 rfl rfl)
theorem dX4_isOpen_9 : decode cX4_isOpen 9 = .ok (.iaload, 1) := dk_46 (dk_at dksX4_isOpen_0 9 rfl rfl)
theorem dX4_isOpen_10 : decode cX4_isOpen 10 = .ok (.ifCond .eq 14, 3) := dk_153 0 14 (dk_at dksX4_isOpen_0 10 rfl rfl)
theorem dX4_isOpen_13 : decode cX4_isOpen 13 = .ok (.aload_n 0, 1) := dk_42 (dk_at dksX4_isOpen_0 13 rfl rfl)
theorem dX4_isOpen_14 : decode cX4_isOpen 14 = .ok (.getfield 9, 3) := dk_180 0 9 (dk_at dksX4_isOpen_0 14 rfl rfl)
theorem dX4_isOpen_17 : decode cX4_isOpen 17 = .ok (.iload_n 1, 1) := dk_27 (dk_at dksX4_isOpen_0 17 rfl rfl)
theorem dX4_isOpen_18 : decode cX4_isOpen 18 = .ok (.iaload, 1) := dk_46 (dk_at dksX4_isOpen_0 18 rfl rfl)
theorem dX4_isOpen_19 : decode cX4_isOpen 19 = .ok (.bipush 10, 2) := dk_16 10 (dk_at dksX4_isOpen_0 19 rfl rfl)
theorem dX4_isOpen_21 : decode cX4_isOpen 21 = .ok (.if_icmp .lt 7, 3) := dk_161 0 7 (dk_at dksX4_isOpen_0 21 rfl rfl)
theorem dX4_isOpen_24 : decode cX4_isOpen 24 = .ok (.iconst 1, 1) := dk_4 (dk_at dksX4_isOpen_1 0 rfl rfl)
theorem dX4_isOpen_25 : decode cX4_isOpen 25 = .ok (.goto 4, 3) := dk_167 0 4 (dk_at dksX4_isOpen_1 1 rfl rfl)
theorem dX4_isOpen_28 : decode cX4_isOpen 28 = .ok (.iconst 0, 1) := dk_3 (dk_at dksX4_isOpen_1 4 rfl rfl)
theorem dX4_isOpen_29 : decode cX4_isOpen 29 = .ok (.ireturn, 1) := dk_172 (dk_at dksX4_isOpen_1 5 rfl rfl)
theorem dn_X4_isOpen : yX4_isOpen.cls ≠ "java/lang/invoke/MethodHandle" ∧ yX4_isOpen.cls ≠ "java/lang/invoke/VarHandle" ∧ (parseMethodDescriptor yX4_isOpen.desc).map (fun d => d.parameters.length) = some 1 := by decide +kernel
noncomputable def M_X4_isOpen (t : Nat) (p1 : Int32) : Mo Bool := Mo.bind (chk [3] t) (fun _ => Mo.bind ((if p1 < 0 then Mo.pure false else Mo.bind (gR [3] t 0) (fun v2 => Mo.bind (aldI 0 v2 p1) (fun v3 => if v3 = 0 then Mo.pure true else Mo.bind (gR [3] t 0) (fun v4 => Mo.bind (aldI 0 v4 p1) (fun v5 => if v5 < 10 then Mo.pure false else Mo.pure true)))) : Mo (Bool))) (fun u1 => Mo.pure u1))
set_option maxHeartbeats 4000000 in
theorem ct_X4_isOpen (G : gG) (t : Nat) (p1 : Int32) : gCt G yX4_isOpen cX4_isOpen 2 (some .boolean) 0 0 [.ref t, .int p1] (M_X4_isOpen t p1) (fun x : Bool => some (.int (b2i x))) := by
  refine gCt.of (by decide) (Nat.le_of_ble_eq_true rfl) (fun K r hG X hd ho => ?_)
  subst hG
  have X : gX K cX4_isOpen 2 "BitingDoors$House" "isOpen" (some .boolean) 0 0 := X
  have hle : gLe (kh1 K) (kh1 K) := gLe.rf
  show V K 2 (kh0 K) 0 [(0, .ref t), (1, .int p1)] []
  generalize kh0 K = h at hd ⊢
  unfold M_X4_isOpen at hd
  obtain ⟨-, hd⟩ := chk_some hd
  refine v_iload_n X dX4_isOpen_0 1 1 rfl rfl ?_
  obtain ⟨u1, h1, hd, hd2⟩ := Mo.bind_some hd
  have KJ : V K 2 h1 29 [] [.int (b2i u1)] := by
    clear hd
    have hd := hd2
    exact v_zret X hd rfl ho dX4_isOpen_29
  have hle := (Mo.le hd2).tr hle
  clear hd2
  refine v_if_lt (tgt := 28) X dX4_isOpen_1 (by decide) (fun q => ?_) (fun q => ?_)
  · have hd := ite_t q hd
    refine v_iconst (v := 0) X dX4_isOpen_28 (by decide) ?_
    exact v_loc [] rfl (v_at (P := fun (u1 : Bool) h => V K 2 h 29 [] [.int (b2i u1)]) hd KJ)
  · have hd := ite_f q hd
    refine v_aload_n X dX4_isOpen_4 0 0 rfl rfl ?_
    refine v_getR X hd fl_X4_9 dX4_isOpen_5 (fun v2 hd => ?_)
    refine v_iload_n X dX4_isOpen_8 1 1 rfl rfl ?_
    refine v_iald X hd dX4_isOpen_9 (fun v3 hd => ?_)
    refine v_if_eq (tgt := 24) X dX4_isOpen_10 (by decide) (fun q => ?_) (fun q => ?_)
    · have hd := ite_t q hd
      refine v_iconst (v := 1) X dX4_isOpen_24 (by decide) ?_
      refine v_goto (tgt := 29) X dX4_isOpen_25 (by decide) ?_
      exact v_loc [] rfl (v_at (P := fun (u1 : Bool) h => V K 2 h 29 [] [.int (b2i u1)]) hd KJ)
    · have hd := ite_f q hd
      refine v_aload_n X dX4_isOpen_13 0 0 rfl rfl ?_
      refine v_getR X hd fl_X4_9 dX4_isOpen_14 (fun v4 hd => ?_)
      refine v_iload_n X dX4_isOpen_17 1 1 rfl rfl ?_
      refine v_iald X hd dX4_isOpen_18 (fun v5 hd => ?_)
      refine v_bipush (v := 10) X dX4_isOpen_19 (by decide) ?_
      refine v_icmp_lt (tgt := 28) X dX4_isOpen_21 (by decide) (fun q => ?_) (fun q => ?_)
      · have hd := ite_t q hd
        refine v_iconst (v := 0) X dX4_isOpen_28 (by decide) ?_
        exact v_loc [] rfl (v_at (P := fun (u1 : Bool) h => V K 2 h 29 [] [.int (b2i u1)]) hd KJ)
      · have hd := ite_f q hd
        refine v_iconst (v := 1) X dX4_isOpen_24 (by decide) ?_
        refine v_goto (tgt := 29) X dX4_isOpen_25 (by decide) ?_
        exact v_loc [] rfl (v_at (P := fun (u1 : Bool) h => V K 2 h 29 [] [.int (b2i u1)]) hd KJ)
def dkwX3_why_7 : List UInt8 := [153, 0, 7, 4, 167, 0, 4, 2, 96, 182, 0, 88, 172]
abbrev dktX3_why_7 : List UInt8 := dkwX3_why_7 ++ []
def dkwX3_why_6 : List UInt8 := [153, 0, 7, 5, 167, 0, 4, 3, 160, 0, 5, 8, 172, 42, 28, 42, 180, 0, 22, 28, 46, 29]
abbrev dktX3_why_6 : List UInt8 := dkwX3_why_6 ++ dktX3_why_7
def dkwX3_why_5 : List UInt8 := [167, 0, 4, 3, 62, 42, 28, 182, 0, 85, 154, 0, 5, 7, 172, 42, 180, 0, 22, 28, 46, 29]
abbrev dktX3_why_5 : List UInt8 := dkwX3_why_5 ++ dktX3_why_6
def dkwX3_why_4 : List UInt8 := [153, 0, 7, 6, 167, 0, 4, 3, 172, 27, 7, 100, 5, 108, 61, 27, 5, 112, 154, 0, 7, 4]
abbrev dktX3_why_4 : List UInt8 := dkwX3_why_4 ++ dktX3_why_5
def dkwX3_why_3 : List UInt8 := [96, 182, 0, 82, 154, 0, 7, 5, 167, 0, 22, 42, 16, 10, 29, 104, 28, 96, 2, 182, 0, 73]
abbrev dktX3_why_3 : List UInt8 := dkwX3_why_3 ++ dktX3_why_4
def dkwX3_why_2 : List UInt8 := [46, 96, 62, 42, 180, 0, 12, 28, 29, 182, 0, 62, 153, 0, 19, 42, 180, 0, 12, 16, 10, 29, 104, 28]
abbrev dktX3_why_2 : List UInt8 := dkwX3_why_2 ++ dktX3_why_3
def dkwX3_why_1 : List UInt8 := [180, 0, 25, 16, 10, 112, 178, 0, 76, 27, 46, 96, 61, 42, 180, 0, 25, 16, 10, 108, 178, 0, 79, 27]
abbrev dktX3_why_1 : List UInt8 := dkwX3_why_1 ++ dktX3_why_2
def dkwX3_why_0 : List UInt8 := [27, 2, 160, 0, 5, 3, 172, 42, 180, 0, 25, 2, 160, 0, 5, 4, 172, 27, 7, 162, 0, 83, 42]
abbrev dktX3_why_0 : List UInt8 := dkwX3_why_0 ++ dktX3_why_1
theorem dksX3_why_0 : cX3_why.data.toList.drop 0 = dktX3_why_0 := by decide +kernel
theorem dksX3_why_1 : cX3_why.data.toList.drop 23 = dktX3_why_1 := dk_seg dksX3_why_0 23 rfl rfl
theorem dksX3_why_2 : cX3_why.data.toList.drop 47 = dktX3_why_2 := dk_seg dksX3_why_1 24 rfl rfl
theorem dksX3_why_3 : cX3_why.data.toList.drop 71 = dktX3_why_3 := dk_seg dksX3_why_2 24 rfl rfl
theorem dksX3_why_4 : cX3_why.data.toList.drop 93 = dktX3_why_4 := dk_seg dksX3_why_3 22 rfl rfl
theorem dksX3_why_5 : cX3_why.data.toList.drop 115 = dktX3_why_5 := dk_seg dksX3_why_4 22 rfl rfl
theorem dksX3_why_6 : cX3_why.data.toList.drop 137 = dktX3_why_6 := dk_seg dksX3_why_5 22 rfl rfl
theorem dksX3_why_7 : cX3_why.data.toList.drop 159 = dktX3_why_7 := dk_seg dksX3_why_6 22 rfl rfl
theorem dX3_why_0 : decode cX3_why 0 = .ok (.iload_n 1, 1) := dk_27 (dk_at dksX3_why_0 0 rfl rfl)
theorem dX3_why_1 : decode cX3_why 1 = .ok (.iconst (-1), 1) := dk_2 (dk_at dksX3_why_0 1 rfl rfl)
theorem dX3_why_2 : decode cX3_why 2 = .ok (.if_icmp .ne 5, 3) := dk_160 0 5 (dk_at dksX3_why_0 2 rfl rfl)
theorem dX3_why_5 : decode cX3_why 5 = .ok (.iconst 0, 1) := dk_3 (dk_at dksX3_why_0 5 rfl rfl)
theorem dX3_why_6 : decode cX3_why 6 = .ok (.ireturn, 1) := dk_172 (dk_at dksX3_why_0 6 rfl rfl)
theorem dX3_why_7 : decode cX3_why 7 = .ok (.aload_n 0, 1) := dk_42 (dk_at dksX3_why_0 7 rfl rfl)
theorem dX3_why_8 : decode cX3_why 8 = .ok (.getfield 25, 3) := dk_180 0 25 (dk_at dksX3_why_0 8 rfl rfl)
theorem dX3_why_11 : decode cX3_why 11 = .ok (.iconst (-1), 1) := dk_2 (dk_at dksX3_why_0 11 rfl rfl)
theorem dX3_why_12 : decode cX3_why 12 = .ok (.if_icmp .ne 5, 3) := dk_160 0 5 (dk_at dksX3_why_0 12 rfl rfl)
theorem dX3_why_15 : decode cX3_why 15 = .ok (.iconst 1, 1) := dk_4 (dk_at dksX3_why_0 15 rfl rfl)
theorem dX3_why_16 : decode cX3_why 16 = .ok (.ireturn, 1) := dk_172 (dk_at dksX3_why_0 16 rfl rfl)
theorem dX3_why_17 : decode cX3_why 17 = .ok (.iload_n 1, 1) := dk_27 (dk_at dksX3_why_0 17 rfl rfl)
theorem dX3_why_18 : decode cX3_why 18 = .ok (.iconst 4, 1) := dk_7 (dk_at dksX3_why_0 18 rfl rfl)
theorem dX3_why_19 : decode cX3_why 19 = .ok (.if_icmp .ge 83, 3) := dk_162 0 83 (dk_at dksX3_why_0 19 rfl rfl)
theorem dX3_why_22 : decode cX3_why 22 = .ok (.aload_n 0, 1) := dk_42 (dk_at dksX3_why_0 22 rfl rfl)
theorem dX3_why_23 : decode cX3_why 23 = .ok (.getfield 25, 3) := dk_180 0 25 (dk_at dksX3_why_1 0 rfl rfl)
theorem dX3_why_26 : decode cX3_why 26 = .ok (.bipush 10, 2) := dk_16 10 (dk_at dksX3_why_1 3 rfl rfl)
theorem dX3_why_28 : decode cX3_why 28 = .ok (.irem, 1) := dk_112 (dk_at dksX3_why_1 5 rfl rfl)
theorem dX3_why_29 : decode cX3_why 29 = .ok (.getstatic 76, 3) := dk_178 0 76 (dk_at dksX3_why_1 6 rfl rfl)
theorem dX3_why_32 : decode cX3_why 32 = .ok (.iload_n 1, 1) := dk_27 (dk_at dksX3_why_1 9 rfl rfl)
theorem dX3_why_33 : decode cX3_why 33 = .ok (.iaload, 1) := dk_46 (dk_at dksX3_why_1 10 rfl rfl)
theorem dX3_why_34 : decode cX3_why 34 = .ok (.iadd, 1) := dk_96 (dk_at dksX3_why_1 11 rfl rfl)
theorem dX3_why_35 : decode cX3_why 35 = .ok (.istore_n 2, 1) := dk_61 (dk_at dksX3_why_1 12 rfl rfl)
theorem dX3_why_36 : decode cX3_why 36 = .ok (.aload_n 0, 1) := dk_42 (dk_at dksX3_why_1 13 rfl rfl)
theorem dX3_why_37 : decode cX3_why 37 = .ok (.getfield 25, 3) := dk_180 0 25 (dk_at dksX3_why_1 14 rfl rfl)
theorem dX3_why_40 : decode cX3_why 40 = .ok (.bipush 10, 2) := dk_16 10 (dk_at dksX3_why_1 17 rfl rfl)
theorem dX3_why_42 : decode cX3_why 42 = .ok (.idiv, 1) := dk_108 (dk_at dksX3_why_1 19 rfl rfl)
theorem dX3_why_43 : decode cX3_why 43 = .ok (.getstatic 79, 3) := dk_178 0 79 (dk_at dksX3_why_1 20 rfl rfl)
theorem dX3_why_46 : decode cX3_why 46 = .ok (.iload_n 1, 1) := dk_27 (dk_at dksX3_why_1 23 rfl rfl)
theorem dX3_why_47 : decode cX3_why 47 = .ok (.iaload, 1) := dk_46 (dk_at dksX3_why_2 0 rfl rfl)
theorem dX3_why_48 : decode cX3_why 48 = .ok (.iadd, 1) := dk_96 (dk_at dksX3_why_2 1 rfl rfl)
theorem dX3_why_49 : decode cX3_why 49 = .ok (.istore_n 3, 1) := dk_62 (dk_at dksX3_why_2 2 rfl rfl)
theorem dX3_why_50 : decode cX3_why 50 = .ok (.aload_n 0, 1) := dk_42 (dk_at dksX3_why_2 3 rfl rfl)
theorem dX3_why_51 : decode cX3_why 51 = .ok (.getfield 12, 3) := dk_180 0 12 (dk_at dksX3_why_2 4 rfl rfl)
theorem dX3_why_54 : decode cX3_why 54 = .ok (.iload_n 2, 1) := dk_28 (dk_at dksX3_why_2 7 rfl rfl)
theorem dX3_why_55 : decode cX3_why 55 = .ok (.iload_n 3, 1) := dk_29 (dk_at dksX3_why_2 8 rfl rfl)
theorem dX3_why_56 : decode cX3_why 56 = .ok (.invokevirtual 62, 3) := dk_182 0 62 (dk_at dksX3_why_2 9 rfl rfl)
theorem dX3_why_59 : decode cX3_why 59 = .ok (.ifCond .eq 19, 3) := dk_153 0 19 (dk_at dksX3_why_2 12 rfl rfl)
theorem dX3_why_62 : decode cX3_why 62 = .ok (.aload_n 0, 1) := dk_42 (dk_at dksX3_why_2 15 rfl rfl)
theorem dX3_why_63 : decode cX3_why 63 = .ok (.getfield 12, 3) := dk_180 0 12 (dk_at dksX3_why_2 16 rfl rfl)
theorem dX3_why_66 : decode cX3_why 66 = .ok (.bipush 10, 2) := dk_16 10 (dk_at dksX3_why_2 19 rfl rfl)
theorem dX3_why_68 : decode cX3_why 68 = .ok (.iload_n 3, 1) := dk_29 (dk_at dksX3_why_2 21 rfl rfl)
theorem dX3_why_69 : decode cX3_why 69 = .ok (.imul, 1) := dk_104 (dk_at dksX3_why_2 22 rfl rfl)
theorem dX3_why_70 : decode cX3_why 70 = .ok (.iload_n 2, 1) := dk_28 (dk_at dksX3_why_2 23 rfl rfl)
theorem dX3_why_71 : decode cX3_why 71 = .ok (.iadd, 1) := dk_96 (dk_at dksX3_why_3 0 rfl rfl)
theorem dX3_why_72 : decode cX3_why 72 = .ok (.invokevirtual 82, 3) := dk_182 0 82 (dk_at dksX3_why_3 1 rfl rfl)
theorem dX3_why_75 : decode cX3_why 75 = .ok (.ifCond .ne 7, 3) := dk_154 0 7 (dk_at dksX3_why_3 4 rfl rfl)
theorem dX3_why_78 : decode cX3_why 78 = .ok (.iconst 2, 1) := dk_5 (dk_at dksX3_why_3 7 rfl rfl)
theorem dX3_why_79 : decode cX3_why 79 = .ok (.goto 22, 3) := dk_167 0 22 (dk_at dksX3_why_3 8 rfl rfl)
theorem dX3_why_82 : decode cX3_why 82 = .ok (.aload_n 0, 1) := dk_42 (dk_at dksX3_why_3 11 rfl rfl)
theorem dX3_why_83 : decode cX3_why 83 = .ok (.bipush 10, 2) := dk_16 10 (dk_at dksX3_why_3 12 rfl rfl)
theorem dX3_why_85 : decode cX3_why 85 = .ok (.iload_n 3, 1) := dk_29 (dk_at dksX3_why_3 14 rfl rfl)
theorem dX3_why_86 : decode cX3_why 86 = .ok (.imul, 1) := dk_104 (dk_at dksX3_why_3 15 rfl rfl)
theorem dX3_why_87 : decode cX3_why 87 = .ok (.iload_n 2, 1) := dk_28 (dk_at dksX3_why_3 16 rfl rfl)
theorem dX3_why_88 : decode cX3_why 88 = .ok (.iadd, 1) := dk_96 (dk_at dksX3_why_3 17 rfl rfl)
theorem dX3_why_89 : decode cX3_why 89 = .ok (.iconst (-1), 1) := dk_2 (dk_at dksX3_why_3 18 rfl rfl)
theorem dX3_why_90 : decode cX3_why 90 = .ok (.invokevirtual 73, 3) := dk_182 0 73 (dk_at dksX3_why_3 19 rfl rfl)
theorem dX3_why_93 : decode cX3_why 93 = .ok (.ifCond .eq 7, 3) := dk_153 0 7 (dk_at dksX3_why_4 0 rfl rfl)
theorem dX3_why_96 : decode cX3_why 96 = .ok (.iconst 3, 1) := dk_6 (dk_at dksX3_why_4 3 rfl rfl)
theorem dX3_why_97 : decode cX3_why 97 = .ok (.goto 4, 3) := dk_167 0 4 (dk_at dksX3_why_4 4 rfl rfl)
theorem dX3_why_100 : decode cX3_why 100 = .ok (.iconst 0, 1) := dk_3 (dk_at dksX3_why_4 7 rfl rfl)
theorem dX3_why_101 : decode cX3_why 101 = .ok (.ireturn, 1) := dk_172 (dk_at dksX3_why_4 8 rfl rfl)
theorem dX3_why_102 : decode cX3_why 102 = .ok (.iload_n 1, 1) := dk_27 (dk_at dksX3_why_4 9 rfl rfl)
theorem dX3_why_103 : decode cX3_why 103 = .ok (.iconst 4, 1) := dk_7 (dk_at dksX3_why_4 10 rfl rfl)
theorem dX3_why_104 : decode cX3_why 104 = .ok (.isub, 1) := dk_100 (dk_at dksX3_why_4 11 rfl rfl)
theorem dX3_why_105 : decode cX3_why 105 = .ok (.iconst 2, 1) := dk_5 (dk_at dksX3_why_4 12 rfl rfl)
theorem dX3_why_106 : decode cX3_why 106 = .ok (.idiv, 1) := dk_108 (dk_at dksX3_why_4 13 rfl rfl)
theorem dX3_why_107 : decode cX3_why 107 = .ok (.istore_n 2, 1) := dk_61 (dk_at dksX3_why_4 14 rfl rfl)
theorem dX3_why_108 : decode cX3_why 108 = .ok (.iload_n 1, 1) := dk_27 (dk_at dksX3_why_4 15 rfl rfl)
theorem dX3_why_109 : decode cX3_why 109 = .ok (.iconst 2, 1) := dk_5 (dk_at dksX3_why_4 16 rfl rfl)
theorem dX3_why_110 : decode cX3_why 110 = .ok (.irem, 1) := dk_112 (dk_at dksX3_why_4 17 rfl rfl)
theorem dX3_why_111 : decode cX3_why 111 = .ok (.ifCond .ne 7, 3) := dk_154 0 7 (dk_at dksX3_why_4 18 rfl rfl)
theorem dX3_why_114 : decode cX3_why 114 = .ok (.iconst 1, 1) := dk_4 (dk_at dksX3_why_4 21 rfl rfl)
theorem dX3_why_115 : decode cX3_why 115 = .ok (.goto 4, 3) := dk_167 0 4 (dk_at dksX3_why_5 0 rfl rfl)
theorem dX3_why_118 : decode cX3_why 118 = .ok (.iconst 0, 1) := dk_3 (dk_at dksX3_why_5 3 rfl rfl)
theorem dX3_why_119 : decode cX3_why 119 = .ok (.istore_n 3, 1) := dk_62 (dk_at dksX3_why_5 4 rfl rfl)
theorem dX3_why_120 : decode cX3_why 120 = .ok (.aload_n 0, 1) := dk_42 (dk_at dksX3_why_5 5 rfl rfl)
theorem dX3_why_121 : decode cX3_why 121 = .ok (.iload_n 2, 1) := dk_28 (dk_at dksX3_why_5 6 rfl rfl)
theorem dX3_why_122 : decode cX3_why 122 = .ok (.invokevirtual 85, 3) := dk_182 0 85 (dk_at dksX3_why_5 7 rfl rfl)
theorem dX3_why_125 : decode cX3_why 125 = .ok (.ifCond .ne 5, 3) := dk_154 0 5 (dk_at dksX3_why_5 10 rfl rfl)
theorem dX3_why_128 : decode cX3_why 128 = .ok (.iconst 4, 1) := dk_7 (dk_at dksX3_why_5 13 rfl rfl)
theorem dX3_why_129 : decode cX3_why 129 = .ok (.ireturn, 1) := dk_172 (dk_at dksX3_why_5 14 rfl rfl)
theorem dX3_why_130 : decode cX3_why 130 = .ok (.aload_n 0, 1) := dk_42 (dk_at dksX3_why_5 15 rfl rfl)
theorem dX3_why_131 : decode cX3_why 131 = .ok (.getfield 22, 3) := dk_180 0 22 (dk_at dksX3_why_5 16 rfl rfl)
theorem dX3_why_134 : decode cX3_why 134 = .ok (.iload_n 2, 1) := dk_28 (dk_at dksX3_why_5 19 rfl rfl)
theorem dX3_why_135 : decode cX3_why 135 = .ok (.iaload, 1) := dk_46 (dk_at dksX3_why_5 20 rfl rfl)
theorem dX3_why_136 : decode cX3_why 136 = .ok (.iload_n 3, 1) := dk_29 (dk_at dksX3_why_5 21 rfl rfl)
theorem dX3_why_137 : decode cX3_why 137 = .ok (.ifCond .eq 7, 3) := dk_153 0 7 (dk_at dksX3_why_6 0 rfl rfl)
theorem dX3_why_140 : decode cX3_why 140 = .ok (.iconst 2, 1) := dk_5 (dk_at dksX3_why_6 3 rfl rfl)
theorem dX3_why_141 : decode cX3_why 141 = .ok (.goto 4, 3) := dk_167 0 4 (dk_at dksX3_why_6 4 rfl rfl)
theorem dX3_why_144 : decode cX3_why 144 = .ok (.iconst 0, 1) := dk_3 (dk_at dksX3_why_6 7 rfl rfl)
theorem dX3_why_145 : decode cX3_why 145 = .ok (.if_icmp .ne 5, 3) := dk_160 0 5 (dk_at dksX3_why_6 8 rfl rfl)
theorem dX3_why_148 : decode cX3_why 148 = .ok (.iconst 5, 1) := dk_8 (dk_at dksX3_why_6 11 rfl rfl)
theorem dX3_why_149 : decode cX3_why 149 = .ok (.ireturn, 1) := dk_172 (dk_at dksX3_why_6 12 rfl rfl)
theorem dX3_why_150 : decode cX3_why 150 = .ok (.aload_n 0, 1) := dk_42 (dk_at dksX3_why_6 13 rfl rfl)
theorem dX3_why_151 : decode cX3_why 151 = .ok (.iload_n 2, 1) := dk_28 (dk_at dksX3_why_6 14 rfl rfl)
theorem dX3_why_152 : decode cX3_why 152 = .ok (.aload_n 0, 1) := dk_42 (dk_at dksX3_why_6 15 rfl rfl)
theorem dX3_why_153 : decode cX3_why 153 = .ok (.getfield 22, 3) := dk_180 0 22 (dk_at dksX3_why_6 16 rfl rfl)
theorem dX3_why_156 : decode cX3_why 156 = .ok (.iload_n 2, 1) := dk_28 (dk_at dksX3_why_6 19 rfl rfl)
theorem dX3_why_157 : decode cX3_why 157 = .ok (.iaload, 1) := dk_46 (dk_at dksX3_why_6 20 rfl rfl)
theorem dX3_why_158 : decode cX3_why 158 = .ok (.iload_n 3, 1) := dk_29 (dk_at dksX3_why_6 21 rfl rfl)
theorem dX3_why_159 : decode cX3_why 159 = .ok (.ifCond .eq 7, 3) := dk_153 0 7 (dk_at dksX3_why_7 0 rfl rfl)
theorem dX3_why_162 : decode cX3_why 162 = .ok (.iconst 1, 1) := dk_4 (dk_at dksX3_why_7 3 rfl rfl)
theorem dX3_why_163 : decode cX3_why 163 = .ok (.goto 4, 3) := dk_167 0 4 (dk_at dksX3_why_7 4 rfl rfl)
theorem dX3_why_166 : decode cX3_why 166 = .ok (.iconst (-1), 1) := dk_2 (dk_at dksX3_why_7 7 rfl rfl)
theorem dX3_why_167 : decode cX3_why 167 = .ok (.iadd, 1) := dk_96 (dk_at dksX3_why_7 8 rfl rfl)
theorem dX3_why_168 : decode cX3_why 168 = .ok (.invokevirtual 88, 3) := dk_182 0 88 (dk_at dksX3_why_7 9 rfl rfl)
theorem dX3_why_171 : decode cX3_why 171 = .ok (.ireturn, 1) := dk_172 (dk_at dksX3_why_7 12 rfl rfl)
theorem dn_X3_why : yX3_why.cls ≠ "java/lang/invoke/MethodHandle" ∧ yX3_why.cls ≠ "java/lang/invoke/VarHandle" ∧ (parseMethodDescriptor yX3_why.desc).map (fun d => d.parameters.length) = some 1 := by decide +kernel
noncomputable def M_X3_why (t : Nat) (p1 : Int32) : Mo Int32 := Mo.bind (chk [2] t) (fun _ => if p1 = (-1) then Mo.pure 0 else Mo.bind (gI [2] t 3) (fun v1 => if v1 = (-1) then Mo.pure 1 else if 4 ≤ p1 then Mo.lv ((p1 - 4) / 2) (fun v2 => Mo.bind ((if (p1 - p1 / 2 * 2) = 0 then Mo.pure true else Mo.pure false : Mo (Bool))) (fun u3 => Mo.bind (M_X3_isAt t v2) (fun v4 => cond v4 (Mo.bind (gR [2] t 2) (fun v5 => Mo.bind (aldI 0 v5 v2) (fun v6 => Mo.bind ((cond u3 (Mo.pure 2) (Mo.pure 0) : Mo (Int32))) (fun u7 => if v6 = u7 then Mo.pure 5 else Mo.bind (gR [2] t 2) (fun v8 => Mo.bind (aldI 0 v8 v2) (fun v9 => Mo.bind ((cond u3 (Mo.pure 1) (Mo.pure (-1)) : Mo (Int32))) (fun u10 => Mo.bind (M_X3_bar t v2 (v9 + u10)) (fun v11 => Mo.pure v11)))))))) (Mo.pure 4)))) else Mo.bind (gI [2] t 3) (fun v12 => Mo.bind (stepA 0 p1) (fun v13 => Mo.lv ((v12 - v12 / 10 * 10) + v13) (fun v14 => Mo.bind (gI [2] t 3) (fun v15 => Mo.bind (stepA 1 p1) (fun v16 => Mo.lv ((v15 / 10) + v16) (fun v17 => Mo.bind (gR [2] t 0) (fun v18 => Mo.bind (M_X4_isCell v18 v14 v17) (fun v19 => Mo.bind ((cond v19 (Mo.bind (gR [2] t 0) (fun v21 => Mo.bind (M_X4_isOpen v21 ((10 * v17) + v14)) (fun v22 => cond v22 (Mo.bind (M_X3_isLeaf t ((10 * v17) + v14) (-1)) (fun v23 => cond v23 (Mo.pure 3) (Mo.pure 0))) (Mo.pure 2)))) (Mo.pure 2) : Mo (Int32))) (fun u20 => Mo.pure u20)))))))))))
set_option maxHeartbeats 4000000 in
theorem ct_X3_why (G : gG) (t : Nat) (p1 : Int32) : gCt G yX3_why cX3_why 4 (some .int) 4 91 [.ref t, .int p1] (M_X3_why t p1) (fun x : Int32 => some (.int x)) := by
  refine gCt.of (by decide) (Nat.le_of_ble_eq_true rfl) (fun K r hG X hd ho => ?_)
  subst hG
  have X : gX K cX3_why 4 "BitingDoors$Walker" "why" (some .int) 4 91 := X
  have hle : gLe (kh1 K) (kh1 K) := gLe.rf
  show V K 4 (kh0 K) 0 [(0, .ref t), (1, .int p1)] []
  generalize kh0 K = h at hd ⊢
  unfold M_X3_why at hd
  obtain ⟨-, hd⟩ := chk_some hd
  refine v_iload_n X dX3_why_0 1 1 rfl rfl ?_
  refine v_iconst (v := (-1)) X dX3_why_1 (by decide) ?_
  refine v_icmp_ne (tgt := 7) X dX3_why_2 (by decide) (fun q => ?_) (fun q => ?_)
  · have hd := ite_f q hd
    refine v_aload_n X dX3_why_7 0 0 rfl rfl ?_
    refine v_getI X hd fl_X3_25 dX3_why_8 (fun v1 hd => ?_)
    refine v_iconst (v := (-1)) X dX3_why_11 (by decide) ?_
    refine v_icmp_ne (tgt := 17) X dX3_why_12 (by decide) (fun q => ?_) (fun q => ?_)
    · have hd := ite_f q hd
      refine v_iload_n X dX3_why_17 1 1 rfl rfl ?_
      refine v_iconst (v := 4) X dX3_why_18 (by decide) ?_
      refine v_icmp_ge (tgt := 102) X dX3_why_19 (by decide) (fun q => ?_) (fun q => ?_)
      · have hd := ite_t q hd
        refine v_iload_n X dX3_why_102 1 1 rfl rfl ?_
        refine v_iconst (v := 4) X dX3_why_103 (by decide) ?_
        refine v_isub X dX3_why_104 ?_
        refine v_iconst (v := 2) X dX3_why_105 (by decide) ?_
        refine v_idiv X dX3_why_106 (by decide) ?_
        refine v_lvI hd (fun v2 hd => ?_)
        refine v_istore_n (lv2 := [(2, .int v2), (0, .ref t), (1, .int p1)]) X dX3_why_107 2 rfl (by decide) rfl ?_
        refine v_iload_n X dX3_why_108 2 1 rfl rfl ?_
        refine v_iconst (v := 2) X dX3_why_109 (by decide) ?_
        refine v_irem X dX3_why_110 (by decide) ?_
        obtain ⟨u3, h1, hd, hd2⟩ := Mo.bind_some hd
        have KJ : V K 4 h1 119 [(0, .ref t), (2, .int v2)] [.int (b2i u3)] := by
          clear hd
          have hd := hd2
          refine v_istore_n (lv2 := [(3, .int (b2i u3)), (0, .ref t), (2, .int v2)]) X dX3_why_119 3 rfl (by decide) rfl ?_
          refine v_aload_n X dX3_why_120 1 0 rfl rfl ?_
          refine v_iload_n X dX3_why_121 2 2 rfl rfl ?_
          refine v_callV X hd hle (ct_X3_isAt _ t v2) gCl_X3 (lw_V q1312 q1313 q1314 q113 q1315) ⟨rfl, dn_X3_isAt⟩ rfl ⟨by decide, by decide⟩ rfl (Nat.le_of_ble_eq_true rfl) dX3_why_122 (fun v4 h hd => ?_)
          show V K 4 h 125 [(3, .int (b2i u3)), (0, .ref t), (2, .int v2)] [.int (b2i v4)]
          refine v_ifZ_ne (tgt := 130) X dX3_why_125 (by decide) (fun q => ?_) (fun q => ?_)
          · have hd := cnd_t q hd
            refine v_aload_n X dX3_why_130 1 0 rfl rfl ?_
            refine v_getR X hd fl_X3_22 dX3_why_131 (fun v5 hd => ?_)
            refine v_iload_n X dX3_why_134 2 2 rfl rfl ?_
            refine v_iald X hd dX3_why_135 (fun v6 hd => ?_)
            refine v_iload_n X dX3_why_136 0 3 rfl rfl ?_
            obtain ⟨u7, h1, hd, hd2⟩ := Mo.bind_some hd
            have KJ : V K 4 h1 145 [(0, .ref t), (2, .int v2), (3, .int (b2i u3))] [.int u7, .int v6] := by
              clear hd
              have hd := hd2
              refine v_icmp_ne (tgt := 150) X dX3_why_145 (by decide) (fun q => ?_) (fun q => ?_)
              · have hd := ite_f q hd
                refine v_aload_n X dX3_why_150 0 0 rfl rfl ?_
                refine v_iload_n X dX3_why_151 1 2 rfl rfl ?_
                refine v_aload_n X dX3_why_152 0 0 rfl rfl ?_
                refine v_getR X hd fl_X3_22 dX3_why_153 (fun v8 hd => ?_)
                refine v_iload_n X dX3_why_156 1 2 rfl rfl ?_
                refine v_iald X hd dX3_why_157 (fun v9 hd => ?_)
                refine v_iload_n X dX3_why_158 2 3 rfl rfl ?_
                obtain ⟨u10, h1, hd, hd2⟩ := Mo.bind_some hd
                have KJ : V K 4 h1 167 [] [.int u10, .int v9, .int v2, .ref t] := by
                  clear hd
                  have hd := hd2
                  refine v_iadd X dX3_why_167 ?_
                  refine v_callV X hd hle (ct_X3_bar _ t v2 (v9 + u10)) gCl_X3 (lw_V q1316 q1318 qs24 q113 q1319) ⟨rfl, dn_X3_bar⟩ rfl ⟨by decide, by decide⟩ rfl (Nat.le_of_ble_eq_true rfl) dX3_why_168 (fun v11 h hd => ?_)
                  show V K 4 h 171 [] [.int v11]
                  exact v_iret X hd ho dX3_why_171
                have hle := (Mo.le hd2).tr hle
                clear hd2
                refine v_ifZ_eq (tgt := 166) X dX3_why_159 (by decide) (fun q => ?_) (fun q => ?_)
                · have hd := cnd_f q hd
                  refine v_iconst (v := (-1)) X dX3_why_166 (by decide) ?_
                  exact v_loc [] rfl (v_at (P := fun (u10 : Int32) h => V K 4 h 167 [] [.int u10, .int v9, .int v2, .ref t]) hd KJ)
                · have hd := cnd_t q hd
                  refine v_iconst (v := 1) X dX3_why_162 (by decide) ?_
                  refine v_goto (tgt := 167) X dX3_why_163 (by decide) ?_
                  exact v_loc [] rfl (v_at (P := fun (u10 : Int32) h => V K 4 h 167 [] [.int u10, .int v9, .int v2, .ref t]) hd KJ)
              · have hd := ite_t q hd
                refine v_iconst (v := 5) X dX3_why_148 (by decide) ?_
                exact v_iret X hd ho dX3_why_149
            have hle := (Mo.le hd2).tr hle
            clear hd2
            refine v_ifZ_eq (tgt := 144) X dX3_why_137 (by decide) (fun q => ?_) (fun q => ?_)
            · have hd := cnd_f q hd
              refine v_iconst (v := 0) X dX3_why_144 (by decide) ?_
              exact v_loc [1, 2, 0] rfl (v_at (P := fun (u7 : Int32) h => V K 4 h 145 [(0, .ref t), (2, .int v2), (3, .int (b2i u3))] [.int u7, .int v6]) hd KJ)
            · have hd := cnd_t q hd
              refine v_iconst (v := 2) X dX3_why_140 (by decide) ?_
              refine v_goto (tgt := 145) X dX3_why_141 (by decide) ?_
              exact v_loc [1, 2, 0] rfl (v_at (P := fun (u7 : Int32) h => V K 4 h 145 [(0, .ref t), (2, .int v2), (3, .int (b2i u3))] [.int u7, .int v6]) hd KJ)
          · have hd := cnd_f q hd
            refine v_iconst (v := 4) X dX3_why_128 (by decide) ?_
            exact v_iret X hd ho dX3_why_129
        have hle := (Mo.le hd2).tr hle
        clear hd2
        refine v_if_ne (tgt := 118) X dX3_why_111 (by decide) (fun q => ?_) (fun q => ?_)
        · have hd := ite_f q hd
          refine v_iconst (v := 0) X dX3_why_118 (by decide) ?_
          exact v_loc [1, 0] rfl (v_at (P := fun (u3 : Bool) h => V K 4 h 119 [(0, .ref t), (2, .int v2)] [.int (b2i u3)]) hd KJ)
        · have hd := ite_t q hd
          refine v_iconst (v := 1) X dX3_why_114 (by decide) ?_
          refine v_goto (tgt := 119) X dX3_why_115 (by decide) ?_
          exact v_loc [1, 0] rfl (v_at (P := fun (u3 : Bool) h => V K 4 h 119 [(0, .ref t), (2, .int v2)] [.int (b2i u3)]) hd KJ)
      · have hd := ite_f q hd
        refine v_aload_n X dX3_why_22 0 0 rfl rfl ?_
        refine v_getI X hd fl_X3_25 dX3_why_23 (fun v12 hd => ?_)
        refine v_bipush (v := 10) X dX3_why_26 (by decide) ?_
        refine v_irem X dX3_why_28 (by decide) ?_
        refine v_getsN0 X (List.mem_of_getElem? (i := 31) rfl) dX3_why_29 ?_
        refine v_iload_n X dX3_why_32 1 1 rfl rfl ?_
        refine v_stepld0 X hd dX3_why_33 (fun v13 hd => ?_)
        refine v_iadd X dX3_why_34 ?_
        refine v_lvI hd (fun v14 hd => ?_)
        refine v_istore_n (lv2 := [(2, .int v14), (0, .ref t), (1, .int p1)]) X dX3_why_35 2 rfl (by decide) rfl ?_
        refine v_aload_n X dX3_why_36 1 0 rfl rfl ?_
        refine v_getI X hd fl_X3_25 dX3_why_37 (fun v15 hd => ?_)
        refine v_bipush (v := 10) X dX3_why_40 (by decide) ?_
        refine v_idiv X dX3_why_42 (by decide) ?_
        refine v_getsN1 X (List.mem_of_getElem? (i := 32) rfl) dX3_why_43 ?_
        refine v_iload_n X dX3_why_46 2 1 rfl rfl ?_
        refine v_stepld1 X hd dX3_why_47 (fun v16 hd => ?_)
        refine v_iadd X dX3_why_48 ?_
        refine v_lvI hd (fun v17 hd => ?_)
        refine v_istore_n (lv2 := [(3, .int v17), (2, .int v14), (0, .ref t), (1, .int p1)]) X dX3_why_49 3 rfl (by decide) rfl ?_
        refine v_aload_n X dX3_why_50 2 0 rfl rfl ?_
        refine v_getR X hd fl_X3_12 dX3_why_51 (fun v18 hd => ?_)
        refine v_iload_n X dX3_why_54 1 2 rfl rfl ?_
        refine v_iload_n X dX3_why_55 0 3 rfl rfl ?_
        refine v_callV X hd hle (ct_X4_isCell _ v18 v14 v17) gCl_X4 (lw_V q1309 q827 q828 q114 q829) ⟨rfl, dn_X4_isCell⟩ rfl ⟨by decide, by decide⟩ rfl (Nat.le_of_ble_eq_true rfl) dX3_why_56 (fun v19 h hd => ?_)
        show V K 4 h 59 [(3, .int v17), (2, .int v14), (0, .ref t), (1, .int p1)] [.int (b2i v19)]
        obtain ⟨u20, h1, hd, hd2⟩ := Mo.bind_some hd
        have KJ : V K 4 h1 101 [] [.int u20] := by
          clear hd
          have hd := hd2
          exact v_iret X hd ho dX3_why_101
        have hle := (Mo.le hd2).tr hle
        clear hd2
        refine v_ifZ_eq (tgt := 78) X dX3_why_59 (by decide) (fun q => ?_) (fun q => ?_)
        · have hd := cnd_f q hd
          refine v_iconst (v := 2) X dX3_why_78 (by decide) ?_
          refine v_goto (tgt := 101) X dX3_why_79 (by decide) ?_
          exact v_loc [] rfl (v_at (P := fun (u20 : Int32) h => V K 4 h 101 [] [.int u20]) hd KJ)
        · have hd := cnd_t q hd
          refine v_aload_n X dX3_why_62 2 0 rfl rfl ?_
          refine v_getR X hd fl_X3_12 dX3_why_63 (fun v21 hd => ?_)
          refine v_bipush (v := 10) X dX3_why_66 (by decide) ?_
          refine v_iload_n X dX3_why_68 0 3 rfl rfl ?_
          refine v_imul X dX3_why_69 ?_
          refine v_iload_n X dX3_why_70 1 2 rfl rfl ?_
          refine v_iadd X dX3_why_71 ?_
          refine v_callV X hd hle (ct_X4_isOpen _ v21 ((10 * v17) + v14)) gCl_X4 (lw_V q1310 q1276 q1277 q114 q1278) ⟨rfl, dn_X4_isOpen⟩ rfl ⟨by decide, by decide⟩ rfl (Nat.le_of_ble_eq_true rfl) dX3_why_72 (fun v22 h hd => ?_)
          show V K 4 h 75 [(3, .int v17), (2, .int v14), (0, .ref t), (1, .int p1)] [.int (b2i v22)]
          refine v_ifZ_ne (tgt := 82) X dX3_why_75 (by decide) (fun q => ?_) (fun q => ?_)
          · have hd := cnd_t q hd
            refine v_aload_n X dX3_why_82 2 0 rfl rfl ?_
            refine v_bipush (v := 10) X dX3_why_83 (by decide) ?_
            refine v_iload_n X dX3_why_85 0 3 rfl rfl ?_
            refine v_imul X dX3_why_86 ?_
            refine v_iload_n X dX3_why_87 1 2 rfl rfl ?_
            refine v_iadd X dX3_why_88 ?_
            refine v_iconst (v := (-1)) X dX3_why_89 (by decide) ?_
            refine v_callV X hd hle (ct_X3_isLeaf _ t ((10 * v17) + v14) (-1)) gCl_X3 (lw_V q1311 q1280 q1281 q113 q1282) ⟨rfl, dn_X3_isLeaf⟩ rfl ⟨by decide, by decide⟩ rfl (Nat.le_of_ble_eq_true rfl) dX3_why_90 (fun v23 h hd => ?_)
            show V K 4 h 93 [(3, .int v17), (2, .int v14), (0, .ref t), (1, .int p1)] [.int (b2i v23)]
            refine v_ifZ_eq (tgt := 100) X dX3_why_93 (by decide) (fun q => ?_) (fun q => ?_)
            · have hd := cnd_f q hd
              refine v_iconst (v := 0) X dX3_why_100 (by decide) ?_
              exact v_loc [] rfl (v_at (P := fun (u20 : Int32) h => V K 4 h 101 [] [.int u20]) hd KJ)
            · have hd := cnd_t q hd
              refine v_iconst (v := 3) X dX3_why_96 (by decide) ?_
              refine v_goto (tgt := 101) X dX3_why_97 (by decide) ?_
              exact v_loc [] rfl (v_at (P := fun (u20 : Int32) h => V K 4 h 101 [] [.int u20]) hd KJ)
          · have hd := cnd_f q hd
            refine v_iconst (v := 2) X dX3_why_78 (by decide) ?_
            refine v_goto (tgt := 101) X dX3_why_79 (by decide) ?_
            exact v_loc [] rfl (v_at (P := fun (u20 : Int32) h => V K 4 h 101 [] [.int u20]) hd KJ)
    · have hd := ite_t q hd
      refine v_iconst (v := 1) X dX3_why_15 (by decide) ?_
      exact v_iret X hd ho dX3_why_16
  · have hd := ite_t q hd
    refine v_iconst (v := 0) X dX3_why_5 (by decide) ?_
    exact v_iret X hd ho dX3_why_6
def dkwX3_minute_6 : List UInt8 := [96, 181, 0, 109, 3, 172]
abbrev dktX3_minute_6 : List UInt8 := dkwX3_minute_6 ++ []
def dkwX3_minute_5 : List UInt8 := [180, 0, 102, 6, 29, 104, 5, 96, 46, 182, 0, 105, 132, 3, 1, 167, 255, 201, 42, 89, 180, 0, 109, 4]
abbrev dktX3_minute_5 : List UInt8 := dkwX3_minute_5 ++ dktX3_minute_6
def dkwX3_minute_4 : List UInt8 := [180, 0, 102, 6, 29, 104, 46, 42, 180, 0, 12, 180, 0, 102, 6, 29, 104, 4, 96, 46, 42, 180, 0, 12]
abbrev dktX3_minute_4 : List UInt8 := dkwX3_minute_4 ++ dktX3_minute_5
def dkwX3_minute_3 : List UInt8 := [167, 0, 4, 2, 96, 79, 3, 62, 29, 42, 180, 0, 12, 180, 0, 99, 162, 0, 50, 42, 42, 180, 0, 12]
abbrev dktX3_minute_3 : List UInt8 := dkwX3_minute_3 ++ dktX3_minute_4
def dkwX3_minute_2 : List UInt8 := [27, 7, 161, 0, 27, 42, 180, 0, 22, 27, 7, 100, 5, 108, 92, 46, 27, 5, 112, 154, 0, 7, 4]
abbrev dktX3_minute_2 : List UInt8 := dkwX3_minute_2 ++ dktX3_minute_3
def dkwX3_minute_1 : List UInt8 := [180, 0, 25, 178, 0, 76, 27, 46, 16, 10, 178, 0, 79, 27, 46, 104, 96, 96, 181, 0, 25, 167, 0, 32]
abbrev dktX3_minute_1 : List UInt8 := dkwX3_minute_1 ++ dktX3_minute_2
def dkwX3_minute_0 : List UInt8 := [42, 27, 182, 0, 92, 61, 28, 158, 0, 5, 28, 172, 27, 3, 6, 184, 0, 95, 153, 0, 29, 42, 89]
abbrev dktX3_minute_0 : List UInt8 := dkwX3_minute_0 ++ dktX3_minute_1
theorem dksX3_minute_0 : cX3_minute.data.toList.drop 0 = dktX3_minute_0 := by decide +kernel
theorem dksX3_minute_1 : cX3_minute.data.toList.drop 23 = dktX3_minute_1 := dk_seg dksX3_minute_0 23 rfl rfl
theorem dksX3_minute_2 : cX3_minute.data.toList.drop 47 = dktX3_minute_2 := dk_seg dksX3_minute_1 24 rfl rfl
theorem dksX3_minute_3 : cX3_minute.data.toList.drop 70 = dktX3_minute_3 := dk_seg dksX3_minute_2 23 rfl rfl
theorem dksX3_minute_4 : cX3_minute.data.toList.drop 94 = dktX3_minute_4 := dk_seg dksX3_minute_3 24 rfl rfl
theorem dksX3_minute_5 : cX3_minute.data.toList.drop 118 = dktX3_minute_5 := dk_seg dksX3_minute_4 24 rfl rfl
theorem dksX3_minute_6 : cX3_minute.data.toList.drop 142 = dktX3_minute_6 := dk_seg dksX3_minute_5 24 rfl rfl
theorem dX3_minute_0 : decode cX3_minute 0 = .ok (.aload_n 0, 1) := dk_42 (dk_at dksX3_minute_0 0 rfl rfl)
theorem dX3_minute_1 : decode cX3_minute 1 = .ok (.iload_n 1, 1) := dk_27 (dk_at dksX3_minute_0 1 rfl rfl)
theorem dX3_minute_2 : decode cX3_minute 2 = .ok (.invokevirtual 92, 3) := dk_182 0 92 (dk_at dksX3_minute_0 2 rfl rfl)
theorem dX3_minute_5 : decode cX3_minute 5 = .ok (.istore_n 2, 1) := dk_61 (dk_at dksX3_minute_0 5 rfl rfl)
theorem dX3_minute_6 : decode cX3_minute 6 = .ok (.iload_n 2, 1) := dk_28 (dk_at dksX3_minute_0 6 rfl rfl)
theorem dX3_minute_7 : decode cX3_minute 7 = .ok (.ifCond .le 5, 3) := dk_158 0 5 (dk_at dksX3_minute_0 7 rfl rfl)
theorem dX3_minute_10 : decode cX3_minute 10 = .ok (.iload_n 2, 1) := dk_28 (dk_at dksX3_minute_0 10 rfl rfl)
theorem dX3_minute_11 : decode cX3_minute 11 = .ok (.ireturn, 1) := dk_172 (dk_at dksX3_minute_0 11 rfl rfl)
theorem dX3_minute_12 : decode cX3_minute 12 = .ok (.iload_n 1, 1) := dk_27 (dk_at dksX3_minute_0 12 rfl rfl)
theorem dX3_minute_13 : decode cX3_minute 13 = .ok (.iconst 0, 1) := dk_3 (dk_at dksX3_minute_0 13 rfl rfl)
theorem dX3_minute_14 : decode cX3_minute 14 = .ok (.iconst 3, 1) := dk_6 (dk_at dksX3_minute_0 14 rfl rfl)
theorem dX3_minute_15 : decode cX3_minute 15 = .ok (.invokestatic 95, 3) := dk_184 0 95 (dk_at dksX3_minute_0 15 rfl rfl)
theorem dX3_minute_18 : decode cX3_minute 18 = .ok (.ifCond .eq 29, 3) := dk_153 0 29 (dk_at dksX3_minute_0 18 rfl rfl)
theorem dX3_minute_21 : decode cX3_minute 21 = .ok (.aload_n 0, 1) := dk_42 (dk_at dksX3_minute_0 21 rfl rfl)
theorem dX3_minute_22 : decode cX3_minute 22 = .ok (.dup, 1) := dk_89 (dk_at dksX3_minute_0 22 rfl rfl)
theorem dX3_minute_23 : decode cX3_minute 23 = .ok (.getfield 25, 3) := dk_180 0 25 (dk_at dksX3_minute_1 0 rfl rfl)
theorem dX3_minute_26 : decode cX3_minute 26 = .ok (.getstatic 76, 3) := dk_178 0 76 (dk_at dksX3_minute_1 3 rfl rfl)
theorem dX3_minute_29 : decode cX3_minute 29 = .ok (.iload_n 1, 1) := dk_27 (dk_at dksX3_minute_1 6 rfl rfl)
theorem dX3_minute_30 : decode cX3_minute 30 = .ok (.iaload, 1) := dk_46 (dk_at dksX3_minute_1 7 rfl rfl)
theorem dX3_minute_31 : decode cX3_minute 31 = .ok (.bipush 10, 2) := dk_16 10 (dk_at dksX3_minute_1 8 rfl rfl)
theorem dX3_minute_33 : decode cX3_minute 33 = .ok (.getstatic 79, 3) := dk_178 0 79 (dk_at dksX3_minute_1 10 rfl rfl)
theorem dX3_minute_36 : decode cX3_minute 36 = .ok (.iload_n 1, 1) := dk_27 (dk_at dksX3_minute_1 13 rfl rfl)
theorem dX3_minute_37 : decode cX3_minute 37 = .ok (.iaload, 1) := dk_46 (dk_at dksX3_minute_1 14 rfl rfl)
theorem dX3_minute_38 : decode cX3_minute 38 = .ok (.imul, 1) := dk_104 (dk_at dksX3_minute_1 15 rfl rfl)
theorem dX3_minute_39 : decode cX3_minute 39 = .ok (.iadd, 1) := dk_96 (dk_at dksX3_minute_1 16 rfl rfl)
theorem dX3_minute_40 : decode cX3_minute 40 = .ok (.iadd, 1) := dk_96 (dk_at dksX3_minute_1 17 rfl rfl)
theorem dX3_minute_41 : decode cX3_minute 41 = .ok (.putfield 25, 3) := dk_181 0 25 (dk_at dksX3_minute_1 18 rfl rfl)
theorem dX3_minute_44 : decode cX3_minute 44 = .ok (.goto 32, 3) := dk_167 0 32 (dk_at dksX3_minute_1 21 rfl rfl)
theorem dX3_minute_47 : decode cX3_minute 47 = .ok (.iload_n 1, 1) := dk_27 (dk_at dksX3_minute_2 0 rfl rfl)
theorem dX3_minute_48 : decode cX3_minute 48 = .ok (.iconst 4, 1) := dk_7 (dk_at dksX3_minute_2 1 rfl rfl)
theorem dX3_minute_49 : decode cX3_minute 49 = .ok (.if_icmp .lt 27, 3) := dk_161 0 27 (dk_at dksX3_minute_2 2 rfl rfl)
theorem dX3_minute_52 : decode cX3_minute 52 = .ok (.aload_n 0, 1) := dk_42 (dk_at dksX3_minute_2 5 rfl rfl)
theorem dX3_minute_53 : decode cX3_minute 53 = .ok (.getfield 22, 3) := dk_180 0 22 (dk_at dksX3_minute_2 6 rfl rfl)
theorem dX3_minute_56 : decode cX3_minute 56 = .ok (.iload_n 1, 1) := dk_27 (dk_at dksX3_minute_2 9 rfl rfl)
theorem dX3_minute_57 : decode cX3_minute 57 = .ok (.iconst 4, 1) := dk_7 (dk_at dksX3_minute_2 10 rfl rfl)
theorem dX3_minute_58 : decode cX3_minute 58 = .ok (.isub, 1) := dk_100 (dk_at dksX3_minute_2 11 rfl rfl)
theorem dX3_minute_59 : decode cX3_minute 59 = .ok (.iconst 2, 1) := dk_5 (dk_at dksX3_minute_2 12 rfl rfl)
theorem dX3_minute_60 : decode cX3_minute 60 = .ok (.idiv, 1) := dk_108 (dk_at dksX3_minute_2 13 rfl rfl)
theorem dX3_minute_61 : decode cX3_minute 61 = .ok (.dup2, 1) := dk_92 (dk_at dksX3_minute_2 14 rfl rfl)
theorem dX3_minute_62 : decode cX3_minute 62 = .ok (.iaload, 1) := dk_46 (dk_at dksX3_minute_2 15 rfl rfl)
theorem dX3_minute_63 : decode cX3_minute 63 = .ok (.iload_n 1, 1) := dk_27 (dk_at dksX3_minute_2 16 rfl rfl)
theorem dX3_minute_64 : decode cX3_minute 64 = .ok (.iconst 2, 1) := dk_5 (dk_at dksX3_minute_2 17 rfl rfl)
theorem dX3_minute_65 : decode cX3_minute 65 = .ok (.irem, 1) := dk_112 (dk_at dksX3_minute_2 18 rfl rfl)
theorem dX3_minute_66 : decode cX3_minute 66 = .ok (.ifCond .ne 7, 3) := dk_154 0 7 (dk_at dksX3_minute_2 19 rfl rfl)
theorem dX3_minute_69 : decode cX3_minute 69 = .ok (.iconst 1, 1) := dk_4 (dk_at dksX3_minute_2 22 rfl rfl)
theorem dX3_minute_70 : decode cX3_minute 70 = .ok (.goto 4, 3) := dk_167 0 4 (dk_at dksX3_minute_3 0 rfl rfl)
theorem dX3_minute_73 : decode cX3_minute 73 = .ok (.iconst (-1), 1) := dk_2 (dk_at dksX3_minute_3 3 rfl rfl)
theorem dX3_minute_74 : decode cX3_minute 74 = .ok (.iadd, 1) := dk_96 (dk_at dksX3_minute_3 4 rfl rfl)
theorem dX3_minute_75 : decode cX3_minute 75 = .ok (.iastore, 1) := dk_79 (dk_at dksX3_minute_3 5 rfl rfl)
theorem dX3_minute_76 : decode cX3_minute 76 = .ok (.iconst 0, 1) := dk_3 (dk_at dksX3_minute_3 6 rfl rfl)
theorem dX3_minute_77 : decode cX3_minute 77 = .ok (.istore_n 3, 1) := dk_62 (dk_at dksX3_minute_3 7 rfl rfl)
theorem dX3_minute_78 : decode cX3_minute 78 = .ok (.iload_n 3, 1) := dk_29 (dk_at dksX3_minute_3 8 rfl rfl)
theorem dX3_minute_79 : decode cX3_minute 79 = .ok (.aload_n 0, 1) := dk_42 (dk_at dksX3_minute_3 9 rfl rfl)
theorem dX3_minute_80 : decode cX3_minute 80 = .ok (.getfield 12, 3) := dk_180 0 12 (dk_at dksX3_minute_3 10 rfl rfl)
theorem dX3_minute_83 : decode cX3_minute 83 = .ok (.getfield 99, 3) := dk_180 0 99 (dk_at dksX3_minute_3 13 rfl rfl)
theorem dX3_minute_86 : decode cX3_minute 86 = .ok (.if_icmp .ge 50, 3) := dk_162 0 50 (dk_at dksX3_minute_3 16 rfl rfl)
theorem dX3_minute_89 : decode cX3_minute 89 = .ok (.aload_n 0, 1) := dk_42 (dk_at dksX3_minute_3 19 rfl rfl)
theorem dX3_minute_90 : decode cX3_minute 90 = .ok (.aload_n 0, 1) := dk_42 (dk_at dksX3_minute_3 20 rfl rfl)
theorem dX3_minute_91 : decode cX3_minute 91 = .ok (.getfield 12, 3) := dk_180 0 12 (dk_at dksX3_minute_3 21 rfl rfl)
theorem dX3_minute_94 : decode cX3_minute 94 = .ok (.getfield 102, 3) := dk_180 0 102 (dk_at dksX3_minute_4 0 rfl rfl)
theorem dX3_minute_97 : decode cX3_minute 97 = .ok (.iconst 3, 1) := dk_6 (dk_at dksX3_minute_4 3 rfl rfl)
theorem dX3_minute_98 : decode cX3_minute 98 = .ok (.iload_n 3, 1) := dk_29 (dk_at dksX3_minute_4 4 rfl rfl)
theorem dX3_minute_99 : decode cX3_minute 99 = .ok (.imul, 1) := dk_104 (dk_at dksX3_minute_4 5 rfl rfl)
theorem dX3_minute_100 : decode cX3_minute 100 = .ok (.iaload, 1) := dk_46 (dk_at dksX3_minute_4 6 rfl rfl)
theorem dX3_minute_101 : decode cX3_minute 101 = .ok (.aload_n 0, 1) := dk_42 (dk_at dksX3_minute_4 7 rfl rfl)
theorem dX3_minute_102 : decode cX3_minute 102 = .ok (.getfield 12, 3) := dk_180 0 12 (dk_at dksX3_minute_4 8 rfl rfl)
theorem dX3_minute_105 : decode cX3_minute 105 = .ok (.getfield 102, 3) := dk_180 0 102 (dk_at dksX3_minute_4 11 rfl rfl)
theorem dX3_minute_108 : decode cX3_minute 108 = .ok (.iconst 3, 1) := dk_6 (dk_at dksX3_minute_4 14 rfl rfl)
theorem dX3_minute_109 : decode cX3_minute 109 = .ok (.iload_n 3, 1) := dk_29 (dk_at dksX3_minute_4 15 rfl rfl)
theorem dX3_minute_110 : decode cX3_minute 110 = .ok (.imul, 1) := dk_104 (dk_at dksX3_minute_4 16 rfl rfl)
theorem dX3_minute_111 : decode cX3_minute 111 = .ok (.iconst 1, 1) := dk_4 (dk_at dksX3_minute_4 17 rfl rfl)
theorem dX3_minute_112 : decode cX3_minute 112 = .ok (.iadd, 1) := dk_96 (dk_at dksX3_minute_4 18 rfl rfl)
theorem dX3_minute_113 : decode cX3_minute 113 = .ok (.iaload, 1) := dk_46 (dk_at dksX3_minute_4 19 rfl rfl)
theorem dX3_minute_114 : decode cX3_minute 114 = .ok (.aload_n 0, 1) := dk_42 (dk_at dksX3_minute_4 20 rfl rfl)
theorem dX3_minute_115 : decode cX3_minute 115 = .ok (.getfield 12, 3) := dk_180 0 12 (dk_at dksX3_minute_4 21 rfl rfl)
theorem dX3_minute_118 : decode cX3_minute 118 = .ok (.getfield 102, 3) := dk_180 0 102 (dk_at dksX3_minute_5 0 rfl rfl)
theorem dX3_minute_121 : decode cX3_minute 121 = .ok (.iconst 3, 1) := dk_6 (dk_at dksX3_minute_5 3 rfl rfl)
theorem dX3_minute_122 : decode cX3_minute 122 = .ok (.iload_n 3, 1) := dk_29 (dk_at dksX3_minute_5 4 rfl rfl)
theorem dX3_minute_123 : decode cX3_minute 123 = .ok (.imul, 1) := dk_104 (dk_at dksX3_minute_5 5 rfl rfl)
theorem dX3_minute_124 : decode cX3_minute 124 = .ok (.iconst 2, 1) := dk_5 (dk_at dksX3_minute_5 6 rfl rfl)
theorem dX3_minute_125 : decode cX3_minute 125 = .ok (.iadd, 1) := dk_96 (dk_at dksX3_minute_5 7 rfl rfl)
theorem dX3_minute_126 : decode cX3_minute 126 = .ok (.iaload, 1) := dk_46 (dk_at dksX3_minute_5 8 rfl rfl)
theorem dX3_minute_127 : decode cX3_minute 127 = .ok (.invokevirtual 105, 3) := dk_182 0 105 (dk_at dksX3_minute_5 9 rfl rfl)
theorem dX3_minute_130 : decode cX3_minute 130 = .ok (.iinc 3 1, 3) := dk_132 3 1 (dk_at dksX3_minute_5 12 rfl rfl)
theorem dX3_minute_133 : decode cX3_minute 133 = .ok (.goto (-55), 3) := dk_167 255 201 (dk_at dksX3_minute_5 15 rfl rfl)
theorem dX3_minute_136 : decode cX3_minute 136 = .ok (.aload_n 0, 1) := dk_42 (dk_at dksX3_minute_5 18 rfl rfl)
theorem dX3_minute_137 : decode cX3_minute 137 = .ok (.dup, 1) := dk_89 (dk_at dksX3_minute_5 19 rfl rfl)
theorem dX3_minute_138 : decode cX3_minute 138 = .ok (.getfield 109, 3) := dk_180 0 109 (dk_at dksX3_minute_5 20 rfl rfl)
theorem dX3_minute_141 : decode cX3_minute 141 = .ok (.iconst 1, 1) := dk_4 (dk_at dksX3_minute_5 23 rfl rfl)
theorem dX3_minute_142 : decode cX3_minute 142 = .ok (.iadd, 1) := dk_96 (dk_at dksX3_minute_6 0 rfl rfl)
theorem dX3_minute_143 : decode cX3_minute 143 = .ok (.putfield 109, 3) := dk_181 0 109 (dk_at dksX3_minute_6 1 rfl rfl)
theorem dX3_minute_146 : decode cX3_minute 146 = .ok (.iconst 0, 1) := dk_3 (dk_at dksX3_minute_6 4 rfl rfl)
theorem dX3_minute_147 : decode cX3_minute 147 = .ok (.ireturn, 1) := dk_172 (dk_at dksX3_minute_6 5 rfl rfl)
theorem fl_X3_102 : gFl "BitingDoors$Walker" 102 [3] 1 := by
  intro args s hts hN ci hc
  simp only [List.mem_cons, List.not_mem_nil, or_false] at hc
  subst hc
  exact ⟨RX4, TX4, 9, "BitingDoors$House", gCl_X4, in_X4, by decide, Or.inr ⟨"BitingDoors", va_Nw.use rfl (hN.1 ("BitingDoors$Walker", 102, "BitingDoors$House", "draughts", "[I", "BitingDoors") (List.mem_of_getElem? (i := 25) rfl))⟩, fun _ h => h⟩
theorem fl_X3_109 : gFl "BitingDoors$Walker" 109 [2] 4 := by
  intro args s hts hN ci hc
  simp only [List.mem_cons, List.not_mem_nil, or_false] at hc
  subst hc
  exact ⟨RX3, TX3, 6, "BitingDoors$Walker", gCl_X3, in_X3, by decide, Or.inl (hts _ q341), fun _ h => h⟩
theorem fl_X3_99 : gFl "BitingDoors$Walker" 99 [3] 7 := by
  intro args s hts hN ci hc
  simp only [List.mem_cons, List.not_mem_nil, or_false] at hc
  subst hc
  exact ⟨RX4, TX4, 9, "BitingDoors$House", gCl_X4, in_X4, by decide, Or.inr ⟨"BitingDoors", va_Nw.use rfl (hN.1 ("BitingDoors$Walker", 99, "BitingDoors$House", "draughtMany", "I", "BitingDoors") (List.mem_of_getElem? (i := 28) rfl))⟩, fun _ h => h⟩
theorem fp_X3_109 {nm : String} : gFp "BitingDoors$Walker" nm 109 [2] 4 .int := by
  intro args s hts hN ci hc
  simp only [List.mem_cons, List.not_mem_nil, or_false] at hc
  subst hc
  exact ⟨RX3, TX3, 6, "BitingDoors$Walker", gCl_X3, in_X3, by decide, Or.inl ⟨rfl, Or.inl (hts _ q341)⟩, fun _ h => h, rfl, fun D tys hK => gap_X3 hts hK⟩
theorem dn_X3_minute : yX3_minute.cls ≠ "java/lang/invoke/MethodHandle" ∧ yX3_minute.cls ≠ "java/lang/invoke/VarHandle" ∧ (parseMethodDescriptor yX3_minute.desc).map (fun d => d.parameters.length) = some 1 := by decide +kernel
noncomputable def M_X3_minute (t : Nat) (p1 : Int32) : Mo Int32 := Mo.bind (chk [2] t) (fun _ => Mo.bind (M_X3_why t p1) (fun v1 => if v1 ≤ 0 then Mo.bind (M_X1_isIn p1 0 3) (fun v2 => Mo.bind ((cond v2 (Mo.bind (gI [2] t 3) (fun v25 => Mo.bind (stepA 0 p1) (fun v26 => Mo.bind (stepA 1 p1) (fun v27 => Mo.bind (pF [2] t 3 (.int (v25 + (v26 + (10 * v27))))) (fun _ => Mo.pure ()))))) (if p1 < 4 then Mo.pure () else Mo.bind (gR [2] t 2) (fun v22 => Mo.bind (aldI 0 v22 ((p1 - 4) / 2)) (fun v23 => Mo.bind ((if (p1 - p1 / 2 * 2) = 0 then Mo.pure 1 else Mo.pure (-1) : Mo (Int32))) (fun u24 => Mo.bind (astI 0 v22 ((p1 - 4) / 2) (v23 + u24)) (fun _ => Mo.pure ()))))) : Mo (Unit))) (fun u3 => Mo.bind (Mo.loop (S := Int32) (E := Unit) (fun s4 => Mo.bind (gR [2] t 0) (fun v8 => Mo.bind (gI [3] v8 7) (fun v9 => if v9 ≤ s4 then Mo.pure (Sum.inr ()) else Mo.bind (gR [2] t 0) (fun v10 => Mo.bind (gR [3] v10 1) (fun v11 => Mo.bind (aldI 0 v11 (3 * s4)) (fun v12 => Mo.bind (gR [2] t 0) (fun v13 => Mo.bind (gR [3] v13 1) (fun v14 => Mo.bind (aldI 0 v14 ((3 * s4) + 1)) (fun v15 => Mo.bind (gR [2] t 0) (fun v16 => Mo.bind (gR [3] v16 1) (fun v17 => Mo.bind (aldI 0 v17 ((3 * s4) + 2)) (fun v18 => Mo.bind (M_X3_blows t v12 v15 v18) (fun v19 => Mo.lv (s4 + 1) (fun v20 => Mo.pure (Sum.inl v20))))))))))))))) 0) (fun e7 => Mo.bind (gI [2] t 4) (fun v21 => Mo.bind (pF [2] t 4 (.int (v21 + 1))) (fun _ => Mo.pure 0))))) else Mo.pure v1))
set_option maxHeartbeats 4000000 in
theorem ct_X3_minute (G : gG) (t : Nat) (p1 : Int32) : gCt G yX3_minute cX3_minute 4 (some .int) 5 114 [.ref t, .int p1] (M_X3_minute t p1) (fun x : Int32 => some (.int x)) := by
  refine gCt.of (by decide) (Nat.le_of_ble_eq_true rfl) (fun K r hG X hd ho => ?_)
  subst hG
  have X : gX K cX3_minute 4 "BitingDoors$Walker" "minute" (some .int) 5 114 := X
  have hle : gLe (kh1 K) (kh1 K) := gLe.rf
  show V K 4 (kh0 K) 0 [(0, .ref t), (1, .int p1)] []
  generalize kh0 K = h at hd ⊢
  unfold M_X3_minute at hd
  obtain ⟨-, hd⟩ := chk_some hd
  refine v_aload_n X dX3_minute_0 0 0 rfl rfl ?_
  refine v_iload_n X dX3_minute_1 1 1 rfl rfl ?_
  refine v_callV X hd hle (ct_X3_why _ t p1) gCl_X3 (lw_V q1301 q1302 q1303 q113 q1304) ⟨rfl, dn_X3_why⟩ rfl ⟨by decide, by decide⟩ rfl (Nat.le_of_ble_eq_true rfl) dX3_minute_2 (fun v1 h hd => ?_)
  show V K 4 h 5 [(0, .ref t), (1, .int p1)] [.int v1]
  refine v_istore_n (lv2 := [(2, .int v1), (0, .ref t), (1, .int p1)]) X dX3_minute_5 2 rfl (by decide) rfl ?_
  refine v_iload_n X dX3_minute_6 0 2 rfl rfl ?_
  refine v_if_le (tgt := 12) X dX3_minute_7 (by decide) (fun q => ?_) (fun q => ?_)
  · have hd := ite_t q hd
    refine v_iload_n X dX3_minute_12 2 1 rfl rfl ?_
    refine v_iconst (v := 0) X dX3_minute_13 (by decide) ?_
    refine v_iconst (v := 3) X dX3_minute_14 (by decide) ?_
    refine v_callSN (host := "BitingDoors") X hd hle (ct_X1_isIn _ p1 0 3) (List.mem_of_getElem? (i := 2) rfl) q689 q688 q109 dn_X1_isIn rfl ⟨by decide, by decide⟩ rfl (Nat.le_of_ble_eq_true rfl) dX3_minute_15 (fun v2 h hd => ?_)
    show V K 4 h 18 [(2, .int v1), (0, .ref t), (1, .int p1)] [.int (b2i v2)]
    obtain ⟨u3, h1, hd, hd2⟩ := Mo.bind_some hd
    have KJ : V K 4 h1 76 [(0, .ref t)] [] := by
      clear hd
      have hd := hd2
      refine v_iconst (v := 0) X dX3_minute_76 (by decide) ?_
      refine v_istore_n (lv2 := [(3, .int 0), (0, .ref t)]) X dX3_minute_77 3 rfl (by decide) rfl ?_
      obtain ⟨e7, h1, hd, hd2⟩ := Mo.bind_some hd
      have KX : V K 4 h1 136 [(0, .ref t)] [] := by
        clear hd
        have hd := hd2
        refine v_aload_n X dX3_minute_136 0 0 rfl rfl ?_
        refine v_dup X dX3_minute_137 rfl ?_
        refine v_getI X hd fl_X3_109 dX3_minute_138 (fun v21 hd => ?_)
        refine v_iconst (v := 1) X dX3_minute_141 (by decide) ?_
        refine v_iadd X dX3_minute_142 ?_
        refine v_put (v := .int (v21 + 1)) X hd fp_X3_109 rfl rfl dX3_minute_143 (fun h hd => ?_)
        refine v_iconst (v := 0) X dX3_minute_146 (by decide) ?_
        exact v_iret X hd ho dX3_minute_147
      have hle := (Mo.le hd2).tr hle
      clear hd2
      refine v_loc [1, 0] rfl ?_
      refine loop_ind hd (fun (s4 : Int32) h => V K 4 h 78 [(0, .ref t), (3, .int s4)] []) (fun s4 h x h2 hd hle0 ih5 ho6 => ?_)
      have hle := hle0.tr hle
      refine v_iload_n X dX3_minute_78 1 3 rfl rfl ?_
      refine v_aload_n X dX3_minute_79 0 0 rfl rfl ?_
      refine v_getR X hd fl_X3_12 dX3_minute_80 (fun v8 hd => ?_)
      refine v_getI X hd fl_X3_99 dX3_minute_83 (fun v9 hd => ?_)
      refine v_icmp_ge (tgt := 136) X dX3_minute_86 (by decide) (fun q => ?_) (fun q => ?_)
      · have hd := ite_t q hd
        exact v_loc [0] rfl (v_at (P := fun (e7 : Unit) h => V K 4 h 136 [(0, .ref t)] []) (lp_out hd ho6) KX)
      · have hd := ite_f q hd
        refine v_aload_n X dX3_minute_89 0 0 rfl rfl ?_
        refine v_aload_n X dX3_minute_90 0 0 rfl rfl ?_
        refine v_getR X hd fl_X3_12 dX3_minute_91 (fun v10 hd => ?_)
        refine v_getR X hd fl_X3_102 dX3_minute_94 (fun v11 hd => ?_)
        refine v_iconst (v := 3) X dX3_minute_97 (by decide) ?_
        refine v_iload_n X dX3_minute_98 1 3 rfl rfl ?_
        refine v_imul X dX3_minute_99 ?_
        refine v_iald X hd dX3_minute_100 (fun v12 hd => ?_)
        refine v_aload_n X dX3_minute_101 0 0 rfl rfl ?_
        refine v_getR X hd fl_X3_12 dX3_minute_102 (fun v13 hd => ?_)
        refine v_getR X hd fl_X3_102 dX3_minute_105 (fun v14 hd => ?_)
        refine v_iconst (v := 3) X dX3_minute_108 (by decide) ?_
        refine v_iload_n X dX3_minute_109 1 3 rfl rfl ?_
        refine v_imul X dX3_minute_110 ?_
        refine v_iconst (v := 1) X dX3_minute_111 (by decide) ?_
        refine v_iadd X dX3_minute_112 ?_
        refine v_iald X hd dX3_minute_113 (fun v15 hd => ?_)
        refine v_aload_n X dX3_minute_114 0 0 rfl rfl ?_
        refine v_getR X hd fl_X3_12 dX3_minute_115 (fun v16 hd => ?_)
        refine v_getR X hd fl_X3_102 dX3_minute_118 (fun v17 hd => ?_)
        refine v_iconst (v := 3) X dX3_minute_121 (by decide) ?_
        refine v_iload_n X dX3_minute_122 1 3 rfl rfl ?_
        refine v_imul X dX3_minute_123 ?_
        refine v_iconst (v := 2) X dX3_minute_124 (by decide) ?_
        refine v_iadd X dX3_minute_125 ?_
        refine v_iald X hd dX3_minute_126 (fun v18 hd => ?_)
        refine v_callV X hd hle (ct_X3_blows _ t v12 v15 v18) gCl_X3 (lw_V q1323 q1325 qs25 q113 q1326) ⟨rfl, dn_X3_blows⟩ rfl ⟨by decide, by decide⟩ rfl (Nat.le_of_ble_eq_true rfl) dX3_minute_127 (fun v19 h hd => ?_)
        show V K 4 h 130 [(0, .ref t), (3, .int s4)] []
        refine v_iincL (lv2 := fun v20 => [(3, .int v20), (0, .ref t)]) X hd dX3_minute_130 1 rfl (by decide : Int32.ofInt 1 = 1) (by decide) (fun v20 => rfl) (fun v20 hd => ?_)
        refine v_goto (tgt := 78) X dX3_minute_133 (by decide) ?_
        exact v_loc [1, 0] rfl (lp_in (P := fun (s4 : Int32) h => V K 4 h 78 [(0, .ref t), (3, .int s4)] []) hd ih5)
    have hle := (Mo.le hd2).tr hle
    clear hd2
    refine v_ifZ_eq (tgt := 47) X dX3_minute_18 (by decide) (fun q => ?_) (fun q => ?_)
    · have hd := cnd_f q hd
      refine v_iload_n X dX3_minute_47 2 1 rfl rfl ?_
      refine v_iconst (v := 4) X dX3_minute_48 (by decide) ?_
      refine v_icmp_lt (tgt := 76) X dX3_minute_49 (by decide) (fun q => ?_) (fun q => ?_)
      · have hd := ite_t q hd
        exact v_loc [1] rfl (v_at (P := fun (u3 : Unit) h => V K 4 h 76 [(0, .ref t)] []) hd KJ)
      · have hd := ite_f q hd
        refine v_aload_n X dX3_minute_52 1 0 rfl rfl ?_
        refine v_getR X hd fl_X3_22 dX3_minute_53 (fun v22 hd => ?_)
        refine v_iload_n X dX3_minute_56 2 1 rfl rfl ?_
        refine v_iconst (v := 4) X dX3_minute_57 (by decide) ?_
        refine v_isub X dX3_minute_58 ?_
        refine v_iconst (v := 2) X dX3_minute_59 (by decide) ?_
        refine v_idiv X dX3_minute_60 (by decide) ?_
        refine v_dup2 X dX3_minute_61 rfl rfl ?_
        refine v_iald X hd dX3_minute_62 (fun v23 hd => ?_)
        refine v_iload_n X dX3_minute_63 2 1 rfl rfl ?_
        refine v_iconst (v := 2) X dX3_minute_64 (by decide) ?_
        refine v_irem X dX3_minute_65 (by decide) ?_
        obtain ⟨u24, h1, hd, hd2⟩ := Mo.bind_some hd
        have KJ : V K 4 h1 74 [(0, .ref t)] [.int u24, .int v23, .int ((p1 - 4) / 2), .ref v22] := by
          clear hd
          have hd := hd2
          refine v_iadd X dX3_minute_74 ?_
          refine v_iast X hd dX3_minute_75 (fun h hd => ?_)
          exact v_loc [0] rfl (v_at (P := fun (u3 : Unit) h => V K 4 h 76 [(0, .ref t)] []) hd KJ)
        have hle := (Mo.le hd2).tr hle
        clear hd2
        refine v_if_ne (tgt := 73) X dX3_minute_66 (by decide) (fun q => ?_) (fun q => ?_)
        · have hd := ite_f q hd
          refine v_iconst (v := (-1)) X dX3_minute_73 (by decide) ?_
          exact v_loc [1] rfl (v_at (P := fun (u24 : Int32) h => V K 4 h 74 [(0, .ref t)] [.int u24, .int v23, .int ((p1 - 4) / 2), .ref v22]) hd KJ)
        · have hd := ite_t q hd
          refine v_iconst (v := 1) X dX3_minute_69 (by decide) ?_
          refine v_goto (tgt := 74) X dX3_minute_70 (by decide) ?_
          exact v_loc [1] rfl (v_at (P := fun (u24 : Int32) h => V K 4 h 74 [(0, .ref t)] [.int u24, .int v23, .int ((p1 - 4) / 2), .ref v22]) hd KJ)
    · have hd := cnd_t q hd
      refine v_aload_n X dX3_minute_21 1 0 rfl rfl ?_
      refine v_dup X dX3_minute_22 rfl ?_
      refine v_getI X hd fl_X3_25 dX3_minute_23 (fun v25 hd => ?_)
      refine v_getsN0 X (List.mem_of_getElem? (i := 31) rfl) dX3_minute_26 ?_
      refine v_iload_n X dX3_minute_29 2 1 rfl rfl ?_
      refine v_stepld0 X hd dX3_minute_30 (fun v26 hd => ?_)
      refine v_bipush (v := 10) X dX3_minute_31 (by decide) ?_
      refine v_getsN1 X (List.mem_of_getElem? (i := 32) rfl) dX3_minute_33 ?_
      refine v_iload_n X dX3_minute_36 2 1 rfl rfl ?_
      refine v_stepld1 X hd dX3_minute_37 (fun v27 hd => ?_)
      refine v_imul X dX3_minute_38 ?_
      refine v_iadd X dX3_minute_39 ?_
      refine v_iadd X dX3_minute_40 ?_
      refine v_put (v := .int (v25 + (v26 + (10 * v27)))) X hd fp_X3_25 rfl rfl dX3_minute_41 (fun h hd => ?_)
      refine v_goto (tgt := 76) X dX3_minute_44 (by decide) ?_
      exact v_loc [1] rfl (v_at (P := fun (u3 : Unit) h => V K 4 h 76 [(0, .ref t)] []) hd KJ)
  · have hd := ite_f q hd
    refine v_iload_n X dX3_minute_10 0 2 rfl rfl ?_
    exact v_iret X hd ho dX3_minute_11
