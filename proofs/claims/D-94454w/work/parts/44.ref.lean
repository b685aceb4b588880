set_option maxRecDepth 100000
def dkwX10_sentence_4 : List UInt8 := [27, 96, 42, 180, 0, 105, 27, 46, 79, 132, 1, 1, 167, 255, 230, 42, 180, 1, 197, 172]
abbrev dktX10_sentence_4 : List UInt8 := dkwX10_sentence_4 ++ []
def dkwX10_sentence_3 : List UInt8 := [17, 1, 207, 42, 180, 1, 185, 79, 3, 60, 27, 17, 0, 240, 162, 0, 25, 42, 180, 0, 13, 17, 1, 208]
abbrev dktX10_sentence_3 : List UInt8 := dkwX10_sentence_3 ++ dktX10_sentence_4
def dkwX10_sentence_2 : List UInt8 := [182, 0, 184, 87, 2, 42, 180, 0, 181, 100, 172, 42, 180, 0, 13, 17, 1, 206, 4, 79, 42, 180, 0, 13]
abbrev dktX10_sentence_2 : List UInt8 := dkwX10_sentence_2 ++ dktX10_sentence_3
def dkwX10_sentence_1 : List UInt8 := [182, 1, 215, 154, 0, 10, 2, 42, 180, 0, 181, 100, 172, 42, 180, 0, 131, 153, 0, 16, 42, 4]
abbrev dktX10_sentence_1 : List UInt8 := dkwX10_sentence_1 ++ dktX10_sentence_2
def dkwX10_sentence_0 : List UInt8 := [42, 17, 0, 200, 182, 0, 249, 42, 3, 181, 1, 179, 42, 3, 181, 1, 197, 42, 3, 181, 1, 200, 42]
abbrev dktX10_sentence_0 : List UInt8 := dkwX10_sentence_0 ++ dktX10_sentence_1
theorem dksX10_sentence_0 : cX10_sentence.data.toList.drop 0 = dktX10_sentence_0 := by decide +kernel
theorem dksX10_sentence_1 : cX10_sentence.data.toList.drop 23 = dktX10_sentence_1 := dk_seg dksX10_sentence_0 23 rfl rfl
theorem dksX10_sentence_2 : cX10_sentence.data.toList.drop 45 = dktX10_sentence_2 := dk_seg dksX10_sentence_1 22 rfl rfl
theorem dksX10_sentence_3 : cX10_sentence.data.toList.drop 69 = dktX10_sentence_3 := dk_seg dksX10_sentence_2 24 rfl rfl
theorem dksX10_sentence_4 : cX10_sentence.data.toList.drop 93 = dktX10_sentence_4 := dk_seg dksX10_sentence_3 24 rfl rfl
theorem dX10_sentence_0 : decode cX10_sentence 0 = .ok (.aload_n 0, 1) := dk_42 (dk_at dksX10_sentence_0 0 rfl rfl)
theorem dX10_sentence_1 : decode cX10_sentence 1 = .ok (.sipush 200, 3) := dk_17 0 200 (dk_at dksX10_sentence_0 1 rfl rfl)
theorem dX10_sentence_4 : decode cX10_sentence 4 = .ok (.invokevirtual 249, 3) := dk_182 0 249 (dk_at dksX10_sentence_0 4 rfl rfl)
theorem dX10_sentence_7 : decode cX10_sentence 7 = .ok (.aload_n 0, 1) := dk_42 (dk_at dksX10_sentence_0 7 rfl rfl)
theorem dX10_sentence_8 : decode cX10_sentence 8 = .ok (.iconst 0, 1) := dk_3 (dk_at dksX10_sentence_0 8 rfl rfl)
theorem dX10_sentence_9 : decode cX10_sentence 9 = .ok (.putfield 435, 3) := dk_181 1 179 (dk_at dksX10_sentence_0 9 rfl rfl)
theorem dX10_sentence_12 : decode cX10_sentence 12 = .ok (.aload_n 0, 1) := dk_42 (dk_at dksX10_sentence_0 12 rfl rfl)
theorem dX10_sentence_13 : decode cX10_sentence 13 = .ok (.iconst 0, 1) := dk_3 (dk_at dksX10_sentence_0 13 rfl rfl)
theorem dX10_sentence_14 : decode cX10_sentence 14 = .ok (.putfield 453, 3) := dk_181 1 197 (dk_at dksX10_sentence_0 14 rfl rfl)
theorem dX10_sentence_17 : decode cX10_sentence 17 = .ok (.aload_n 0, 1) := dk_42 (dk_at dksX10_sentence_0 17 rfl rfl)
theorem dX10_sentence_18 : decode cX10_sentence 18 = .ok (.iconst 0, 1) := dk_3 (dk_at dksX10_sentence_0 18 rfl rfl)
theorem dX10_sentence_19 : decode cX10_sentence 19 = .ok (.putfield 456, 3) := dk_181 1 200 (dk_at dksX10_sentence_0 19 rfl rfl)
theorem dX10_sentence_22 : decode cX10_sentence 22 = .ok (.aload_n 0, 1) := dk_42 (dk_at dksX10_sentence_0 22 rfl rfl)
theorem dX10_sentence_23 : decode cX10_sentence 23 = .ok (.invokevirtual 471, 3) := dk_182 1 215 (dk_at dksX10_sentence_1 0 rfl rfl)
theorem dX10_sentence_26 : decode cX10_sentence 26 = .ok (.ifCond .ne 10, 3) := dk_154 0 10 (dk_at dksX10_sentence_1 3 rfl rfl)
theorem dX10_sentence_29 : decode cX10_sentence 29 = .ok (.iconst (-1), 1) := dk_2 (dk_at dksX10_sentence_1 6 rfl rfl)
theorem dX10_sentence_30 : decode cX10_sentence 30 = .ok (.aload_n 0, 1) := dk_42 (dk_at dksX10_sentence_1 7 rfl rfl)
theorem dX10_sentence_31 : decode cX10_sentence 31 = .ok (.getfield 181, 3) := dk_180 0 181 (dk_at dksX10_sentence_1 8 rfl rfl)
theorem dX10_sentence_34 : decode cX10_sentence 34 = .ok (.isub, 1) := dk_100 (dk_at dksX10_sentence_1 11 rfl rfl)
theorem dX10_sentence_35 : decode cX10_sentence 35 = .ok (.ireturn, 1) := dk_172 (dk_at dksX10_sentence_1 12 rfl rfl)
theorem dX10_sentence_36 : decode cX10_sentence 36 = .ok (.aload_n 0, 1) := dk_42 (dk_at dksX10_sentence_1 13 rfl rfl)
theorem dX10_sentence_37 : decode cX10_sentence 37 = .ok (.getfield 131, 3) := dk_180 0 131 (dk_at dksX10_sentence_1 14 rfl rfl)
theorem dX10_sentence_40 : decode cX10_sentence 40 = .ok (.ifCond .eq 16, 3) := dk_153 0 16 (dk_at dksX10_sentence_1 17 rfl rfl)
theorem dX10_sentence_43 : decode cX10_sentence 43 = .ok (.aload_n 0, 1) := dk_42 (dk_at dksX10_sentence_1 20 rfl rfl)
theorem dX10_sentence_44 : decode cX10_sentence 44 = .ok (.iconst 1, 1) := dk_4 (dk_at dksX10_sentence_1 21 rfl rfl)
theorem dX10_sentence_45 : decode cX10_sentence 45 = .ok (.invokevirtual 184, 3) := dk_182 0 184 (dk_at dksX10_sentence_2 0 rfl rfl)
theorem dX10_sentence_48 : decode cX10_sentence 48 = .ok (.pop, 1) := dk_87 (dk_at dksX10_sentence_2 3 rfl rfl)
theorem dX10_sentence_49 : decode cX10_sentence 49 = .ok (.iconst (-1), 1) := dk_2 (dk_at dksX10_sentence_2 4 rfl rfl)
theorem dX10_sentence_50 : decode cX10_sentence 50 = .ok (.aload_n 0, 1) := dk_42 (dk_at dksX10_sentence_2 5 rfl rfl)
theorem dX10_sentence_51 : decode cX10_sentence 51 = .ok (.getfield 181, 3) := dk_180 0 181 (dk_at dksX10_sentence_2 6 rfl rfl)
theorem dX10_sentence_54 : decode cX10_sentence 54 = .ok (.isub, 1) := dk_100 (dk_at dksX10_sentence_2 9 rfl rfl)
theorem dX10_sentence_55 : decode cX10_sentence 55 = .ok (.ireturn, 1) := dk_172 (dk_at dksX10_sentence_2 10 rfl rfl)
theorem dX10_sentence_56 : decode cX10_sentence 56 = .ok (.aload_n 0, 1) := dk_42 (dk_at dksX10_sentence_2 11 rfl rfl)
theorem dX10_sentence_57 : decode cX10_sentence 57 = .ok (.getfield 13, 3) := dk_180 0 13 (dk_at dksX10_sentence_2 12 rfl rfl)
theorem dX10_sentence_60 : decode cX10_sentence 60 = .ok (.sipush 462, 3) := dk_17 1 206 (dk_at dksX10_sentence_2 15 rfl rfl)
theorem dX10_sentence_63 : decode cX10_sentence 63 = .ok (.iconst 1, 1) := dk_4 (dk_at dksX10_sentence_2 18 rfl rfl)
theorem dX10_sentence_64 : decode cX10_sentence 64 = .ok (.iastore, 1) := dk_79 (dk_at dksX10_sentence_2 19 rfl rfl)
theorem dX10_sentence_65 : decode cX10_sentence 65 = .ok (.aload_n 0, 1) := dk_42 (dk_at dksX10_sentence_2 20 rfl rfl)
theorem dX10_sentence_66 : decode cX10_sentence 66 = .ok (.getfield 13, 3) := dk_180 0 13 (dk_at dksX10_sentence_2 21 rfl rfl)
theorem dX10_sentence_69 : decode cX10_sentence 69 = .ok (.sipush 463, 3) := dk_17 1 207 (dk_at dksX10_sentence_3 0 rfl rfl)
theorem dX10_sentence_72 : decode cX10_sentence 72 = .ok (.aload_n 0, 1) := dk_42 (dk_at dksX10_sentence_3 3 rfl rfl)
theorem dX10_sentence_73 : decode cX10_sentence 73 = .ok (.getfield 441, 3) := dk_180 1 185 (dk_at dksX10_sentence_3 4 rfl rfl)
theorem dX10_sentence_76 : decode cX10_sentence 76 = .ok (.iastore, 1) := dk_79 (dk_at dksX10_sentence_3 7 rfl rfl)
theorem dX10_sentence_77 : decode cX10_sentence 77 = .ok (.iconst 0, 1) := dk_3 (dk_at dksX10_sentence_3 8 rfl rfl)
theorem dX10_sentence_78 : decode cX10_sentence 78 = .ok (.istore_n 1, 1) := dk_60 (dk_at dksX10_sentence_3 9 rfl rfl)
theorem dX10_sentence_79 : decode cX10_sentence 79 = .ok (.iload_n 1, 1) := dk_27 (dk_at dksX10_sentence_3 10 rfl rfl)
theorem dX10_sentence_80 : decode cX10_sentence 80 = .ok (.sipush 240, 3) := dk_17 0 240 (dk_at dksX10_sentence_3 11 rfl rfl)
theorem dX10_sentence_83 : decode cX10_sentence 83 = .ok (.if_icmp .ge 25, 3) := dk_162 0 25 (dk_at dksX10_sentence_3 14 rfl rfl)
theorem dX10_sentence_86 : decode cX10_sentence 86 = .ok (.aload_n 0, 1) := dk_42 (dk_at dksX10_sentence_3 17 rfl rfl)
theorem dX10_sentence_87 : decode cX10_sentence 87 = .ok (.getfield 13, 3) := dk_180 0 13 (dk_at dksX10_sentence_3 18 rfl rfl)
theorem dX10_sentence_90 : decode cX10_sentence 90 = .ok (.sipush 464, 3) := dk_17 1 208 (dk_at dksX10_sentence_3 21 rfl rfl)
theorem dX10_sentence_93 : decode cX10_sentence 93 = .ok (.iload_n 1, 1) := dk_27 (dk_at dksX10_sentence_4 0 rfl rfl)
theorem dX10_sentence_94 : decode cX10_sentence 94 = .ok (.iadd, 1) := dk_96 (dk_at dksX10_sentence_4 1 rfl rfl)
theorem dX10_sentence_95 : decode cX10_sentence 95 = .ok (.aload_n 0, 1) := dk_42 (dk_at dksX10_sentence_4 2 rfl rfl)
theorem dX10_sentence_96 : decode cX10_sentence 96 = .ok (.getfield 105, 3) := dk_180 0 105 (dk_at dksX10_sentence_4 3 rfl rfl)
theorem dX10_sentence_99 : decode cX10_sentence 99 = .ok (.iload_n 1, 1) := dk_27 (dk_at dksX10_sentence_4 6 rfl rfl)
theorem dX10_sentence_100 : decode cX10_sentence 100 = .ok (.iaload, 1) := dk_46 (dk_at dksX10_sentence_4 7 rfl rfl)
theorem dX10_sentence_101 : decode cX10_sentence 101 = .ok (.iastore, 1) := dk_79 (dk_at dksX10_sentence_4 8 rfl rfl)
theorem dX10_sentence_102 : decode cX10_sentence 102 = .ok (.iinc 1 1, 3) := dk_132 1 1 (dk_at dksX10_sentence_4 9 rfl rfl)
theorem dX10_sentence_105 : decode cX10_sentence 105 = .ok (.goto (-26), 3) := dk_167 255 230 (dk_at dksX10_sentence_4 12 rfl rfl)
theorem dX10_sentence_108 : decode cX10_sentence 108 = .ok (.aload_n 0, 1) := dk_42 (dk_at dksX10_sentence_4 15 rfl rfl)
theorem dX10_sentence_109 : decode cX10_sentence 109 = .ok (.getfield 453, 3) := dk_180 1 197 (dk_at dksX10_sentence_4 16 rfl rfl)
theorem dX10_sentence_112 : decode cX10_sentence 112 = .ok (.ireturn, 1) := dk_172 (dk_at dksX10_sentence_4 19 rfl rfl)
theorem dn_X10_sentence : yX10_sentence.cls ≠ "java/lang/invoke/MethodHandle" ∧ yX10_sentence.cls ≠ "java/lang/invoke/VarHandle" ∧ (parseMethodDescriptor yX10_sentence.desc).map (fun d => d.parameters.length) = some 0 := by decide +kernel
noncomputable def M_X10_sentence  : TM Int32 := TM.bind (M_X10_begin 200) (fun v1 => TM.bind (sI 60 0) (fun _ => TM.bind (sI 61 0) (fun _ => TM.bind (sI 62 0) (fun _ => TM.bind (M_X10_readOr) (fun v2 => cond v2 (TM.bind (tI 7) (fun v3 => if v3 = 0 then TM.bind (sA 14 704 462 1) (fun _ => TM.bind (tI 63) (fun v4 => TM.bind (sA 14 704 463 v4) (fun _ => TM.bind (TM.loop (S := Int32) (E := Unit) (fun s5 => if 240 ≤ s5 then TM.pure (Sum.inr ()) else TM.bind (tA 59 240 s5) (fun v9 => TM.bind (sA 14 704 (464 + s5) v9) (fun _ => TM.lv (s5 + 1) (fun v10 => TM.pure (Sum.inl v10))))) 0) (fun e8 => TM.bind (tI 61) (fun v11 => TM.pure v11))))) else TM.bind (M_X10_bad 1) (fun v12 => TM.bind (tI 11) (fun v13 => TM.pure ((-1) - v13))))) (TM.bind (tI 11) (fun v14 => TM.pure ((-1) - v14))))))))
set_option maxHeartbeats 4000000 in
theorem ct_X10_sentence (G : gG) (am : Nat)  : gCtM G am yX10_sentence cX10_sentence 2 (some .int) 69 1582 [.ref am] (M_X10_sentence) (fun x : Int32 => some (.int x)) := by
  refine gCtM.of (by decide) (Nat.le_of_ble_eq_true rfl) (fun K hn ms ms' r hG X hK hd ho => ?_)
  subst hG
  have X : gX K cX10_sentence 2 "BitingDoorsModel" "sentence" (some .int) 69 1582 := X
  show V K 2 (mkM am hn ms) 0 [(0, .ref am)] []
  unfold M_X10_sentence at hd
  refine v_aload_n X dX10_sentence_0 0 0 rfl rfl ?_
  refine v_sipush (v := 200) X dX10_sentence_1 (by decide) ?_
  refine t_callV X hK hd (ct_X10_begin _ am 200) (lw_V q1864 q1866 qs36 q120 q1867) ⟨rfl, dn_X10_begin⟩ rfl ⟨by decide, by decide⟩ rfl (Nat.le_of_ble_eq_true rfl) dX10_sentence_4 (fun v1 ms hd => ?_)
  show V K 2 (mkM am hn ms) 7 [(0, .ref am)] []
  refine v_aload_n X dX10_sentence_7 0 0 rfl rfl ?_
  refine v_iconst (v := 0) X dX10_sentence_8 (by decide) ?_
  refine t_putI X hd rfl fp_X10_435 dX10_sentence_9 (fun ms hd => ?_)
  refine v_aload_n X dX10_sentence_12 0 0 rfl rfl ?_
  refine v_iconst (v := 0) X dX10_sentence_13 (by decide) ?_
  refine t_putI X hd rfl fp_X10_453 dX10_sentence_14 (fun ms hd => ?_)
  refine v_aload_n X dX10_sentence_17 0 0 rfl rfl ?_
  refine v_iconst (v := 0) X dX10_sentence_18 (by decide) ?_
  refine t_putI X hd rfl fp_X10_456 dX10_sentence_19 (fun ms hd => ?_)
  refine v_aload_n X dX10_sentence_22 0 0 rfl rfl ?_
  refine t_callV X hK hd (ct_X10_readOr _ am) (lw_V q2280 q2282 qs97 q120 q2283) ⟨rfl, dn_X10_readOr⟩ rfl ⟨by decide, by decide⟩ rfl (Nat.le_of_ble_eq_true rfl) dX10_sentence_23 (fun v2 ms hd => ?_)
  show V K 2 (mkM am hn ms) 26 [(0, .ref am)] [.int (b2i v2)]
  refine v_ifZ_ne (tgt := 36) X dX10_sentence_26 (by decide) (fun q => ?_) (fun q => ?_)
  · have hd := Tcnd_t q hd
    refine v_aload_n X dX10_sentence_36 0 0 rfl rfl ?_
    refine t_getI X hd rfl fl_X10_131 dX10_sentence_37 (fun v3 hd => ?_)
    refine v_if_eq (tgt := 56) X dX10_sentence_40 (by decide) (fun q => ?_) (fun q => ?_)
    · have hd := Tite_t q hd
      refine v_aload_n X dX10_sentence_56 0 0 rfl rfl ?_
      refine t_getA (j := 1) X rfl fl_X10_13 dX10_sentence_57 ?_
      refine v_sipush (v := 462) X dX10_sentence_60 (by decide) ?_
      refine v_iconst (v := 1) X dX10_sentence_63 (by decide) ?_
      refine t_iast (j := 1) X hd rfl dX10_sentence_64 (fun ms hd => ?_)
      refine v_aload_n X dX10_sentence_65 0 0 rfl rfl ?_
      refine t_getA (j := 1) X rfl fl_X10_13 dX10_sentence_66 ?_
      refine v_sipush (v := 463) X dX10_sentence_69 (by decide) ?_
      refine v_aload_n X dX10_sentence_72 0 0 rfl rfl ?_
      refine t_getI X hd rfl fl_X10_441 dX10_sentence_73 (fun v4 hd => ?_)
      refine t_iast (j := 1) X hd rfl dX10_sentence_76 (fun ms hd => ?_)
      refine v_iconst (v := 0) X dX10_sentence_77 (by decide) ?_
      refine v_istore_n (lv2 := [(1, .int 0), (0, .ref am)]) X dX10_sentence_78 1 rfl (by decide) rfl ?_
      obtain ⟨e8, m1, hd, hd2⟩ := TM.bind_some hd
      have KX : V K 2 (mkM am hn m1) 108 [(0, .ref am)] [] := by
        clear hd
        have hd := hd2
        refine v_aload_n X dX10_sentence_108 0 0 rfl rfl ?_
        refine t_getI X hd rfl fl_X10_453 dX10_sentence_109 (fun v11 hd => ?_)
        exact t_iret X hK hd ho dX10_sentence_112
      clear hd2
      refine v_loc [1, 0] rfl ?_
      refine Tloop_ind hd (fun (s5 : Int32) m => V K 2 (mkM am hn m) 79 [(0, .ref am), (1, .int s5)] []) (fun s5 ms x m2 hd ih6 ho7 => ?_)
      refine v_iload_n X dX10_sentence_79 1 1 rfl rfl ?_
      refine v_sipush (v := 240) X dX10_sentence_80 (by decide) ?_
      refine v_icmp_ge (tgt := 108) X dX10_sentence_83 (by decide) (fun q => ?_) (fun q => ?_)
      · have hd := Tite_t q hd
        exact v_loc [0] rfl (t_at (P := fun (e8 : Unit) m => V K 2 (mkM am hn m) 108 [(0, .ref am)] []) (Tlp_out hd ho7) KX)
      · have hd := Tite_f q hd
        refine v_aload_n X dX10_sentence_86 0 0 rfl rfl ?_
        refine t_getA (j := 1) X rfl fl_X10_13 dX10_sentence_87 ?_
        refine v_sipush (v := 464) X dX10_sentence_90 (by decide) ?_
        refine v_iload_n X dX10_sentence_93 1 1 rfl rfl ?_
        refine v_iadd X dX10_sentence_94 ?_
        refine v_aload_n X dX10_sentence_95 0 0 rfl rfl ?_
        refine t_getA (j := 31) X rfl fl_X10_105 dX10_sentence_96 ?_
        refine v_iload_n X dX10_sentence_99 1 1 rfl rfl ?_
        refine t_iald (j := 31) X hd rfl dX10_sentence_100 (fun v9 hd => ?_)
        refine t_iast (j := 1) X hd rfl dX10_sentence_101 (fun ms hd => ?_)
        refine t_iincL (lv2 := fun v10 => [(1, .int v10), (0, .ref am)]) X hd dX10_sentence_102 1 rfl (by decide : Int32.ofInt 1 = 1) (by decide) (fun v10 => rfl) (fun v10 hd => ?_)
        refine v_goto (tgt := 79) X dX10_sentence_105 (by decide) ?_
        exact v_loc [1, 0] rfl (Tlp_in (P := fun (s5 : Int32) m => V K 2 (mkM am hn m) 79 [(0, .ref am), (1, .int s5)] []) hd ih6)
    · have hd := Tite_f q hd
      refine v_aload_n X dX10_sentence_43 0 0 rfl rfl ?_
      refine v_iconst (v := 1) X dX10_sentence_44 (by decide) ?_
      refine t_callV X hK hd (ct_X10_bad _ am 1) (lw_V q1913 q1915 qs44 q120 q1916) ⟨rfl, dn_X10_bad⟩ rfl ⟨by decide, by decide⟩ rfl (Nat.le_of_ble_eq_true rfl) dX10_sentence_45 (fun v12 ms hd => ?_)
      show V K 2 (mkM am hn ms) 48 [(0, .ref am)] [.int (b2i v12)]
      refine v_pop X dX10_sentence_48 rfl ?_
      refine v_iconst (v := (-1)) X dX10_sentence_49 (by decide) ?_
      refine v_aload_n X dX10_sentence_50 0 0 rfl rfl ?_
      refine t_getI X hd rfl fl_X10_181 dX10_sentence_51 (fun v13 hd => ?_)
      refine v_isub X dX10_sentence_54 ?_
      exact t_iret X hK hd ho dX10_sentence_55
  · have hd := Tcnd_f q hd
    refine v_iconst (v := (-1)) X dX10_sentence_29 (by decide) ?_
    refine v_aload_n X dX10_sentence_30 0 0 rfl rfl ?_
    refine t_getI X hd rfl fl_X10_181 dX10_sentence_31 (fun v14 hd => ?_)
    refine v_isub X dX10_sentence_34 ?_
    exact t_iret X hK hd ho dX10_sentence_35
