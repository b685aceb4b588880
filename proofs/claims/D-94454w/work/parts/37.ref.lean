set_option maxRecDepth 100000
def dkwX10_findWay_4 : List UInt8 := [167, 255, 220, 29, 172]
abbrev dktX10_findWay_4 : List UInt8 := dkwX10_findWay_4 ++ []
def dkwX10_findWay_3 : List UInt8 := [42, 180, 0, 96, 21, 4, 42, 180, 0, 93, 21, 5, 46, 79, 42, 180, 0, 90, 21, 5, 46, 54, 5]
abbrev dktX10_findWay_3 : List UInt8 := dkwX10_findWay_3 ++ dktX10_findWay_4
def dkwX10_findWay_2 : List UInt8 := [42, 29, 181, 1, 167, 29, 54, 4, 28, 54, 5, 42, 180, 0, 93, 21, 5, 46, 155, 0, 32, 132, 4, 255]
abbrev dktX10_findWay_2 : List UInt8 := dkwX10_findWay_2 ++ dktX10_findWay_3
def dkwX10_findWay_1 : List UInt8 := [180, 0, 93, 21, 4, 46, 155, 0, 18, 132, 3, 1, 42, 180, 0, 90, 21, 4, 46, 54, 4, 167, 255, 234]
abbrev dktX10_findWay_1 : List UInt8 := dkwX10_findWay_1 ++ dktX10_findWay_2
def dkwX10_findWay_0 : List UInt8 := [42, 182, 1, 125, 42, 27, 182, 1, 164, 61, 28, 2, 160, 0, 5, 2, 172, 3, 62, 28, 54, 4, 42]
abbrev dktX10_findWay_0 : List UInt8 := dkwX10_findWay_0 ++ dktX10_findWay_1
theorem dksX10_findWay_0 : cX10_findWay.data.toList.drop 0 = dktX10_findWay_0 := by decide +kernel
theorem dksX10_findWay_1 : cX10_findWay.data.toList.drop 23 = dktX10_findWay_1 := dk_seg dksX10_findWay_0 23 rfl rfl
theorem dksX10_findWay_2 : cX10_findWay.data.toList.drop 47 = dktX10_findWay_2 := dk_seg dksX10_findWay_1 24 rfl rfl
theorem dksX10_findWay_3 : cX10_findWay.data.toList.drop 71 = dktX10_findWay_3 := dk_seg dksX10_findWay_2 24 rfl rfl
theorem dksX10_findWay_4 : cX10_findWay.data.toList.drop 94 = dktX10_findWay_4 := dk_seg dksX10_findWay_3 23 rfl rfl
theorem dX10_findWay_0 : decode cX10_findWay 0 = .ok (.aload_n 0, 1) := dk_42 (dk_at dksX10_findWay_0 0 rfl rfl)
theorem dX10_findWay_1 : decode cX10_findWay 1 = .ok (.invokevirtual 381, 3) := dk_182 1 125 (dk_at dksX10_findWay_0 1 rfl rfl)
theorem dX10_findWay_4 : decode cX10_findWay 4 = .ok (.aload_n 0, 1) := dk_42 (dk_at dksX10_findWay_0 4 rfl rfl)
theorem dX10_findWay_5 : decode cX10_findWay 5 = .ok (.iload_n 1, 1) := dk_27 (dk_at dksX10_findWay_0 5 rfl rfl)
theorem dX10_findWay_6 : decode cX10_findWay 6 = .ok (.invokevirtual 420, 3) := dk_182 1 164 (dk_at dksX10_findWay_0 6 rfl rfl)
theorem dX10_findWay_9 : decode cX10_findWay 9 = .ok (.istore_n 2, 1) := dk_61 (dk_at dksX10_findWay_0 9 rfl rfl)
theorem dX10_findWay_10 : decode cX10_findWay 10 = .ok (.iload_n 2, 1) := dk_28 (dk_at dksX10_findWay_0 10 rfl rfl)
theorem dX10_findWay_11 : decode cX10_findWay 11 = .ok (.iconst (-1), 1) := dk_2 (dk_at dksX10_findWay_0 11 rfl rfl)
theorem dX10_findWay_12 : decode cX10_findWay 12 = .ok (.if_icmp .ne 5, 3) := dk_160 0 5 (dk_at dksX10_findWay_0 12 rfl rfl)
theorem dX10_findWay_15 : decode cX10_findWay 15 = .ok (.iconst (-1), 1) := dk_2 (dk_at dksX10_findWay_0 15 rfl rfl)
theorem dX10_findWay_16 : decode cX10_findWay 16 = .ok (.ireturn, 1) := dk_172 (dk_at dksX10_findWay_0 16 rfl rfl)
theorem dX10_findWay_17 : decode cX10_findWay 17 = .ok (.iconst 0, 1) := dk_3 (dk_at dksX10_findWay_0 17 rfl rfl)
theorem dX10_findWay_18 : decode cX10_findWay 18 = .ok (.istore_n 3, 1) := dk_62 (dk_at dksX10_findWay_0 18 rfl rfl)
theorem dX10_findWay_19 : decode cX10_findWay 19 = .ok (.iload_n 2, 1) := dk_28 (dk_at dksX10_findWay_0 19 rfl rfl)
theorem dX10_findWay_20 : decode cX10_findWay 20 = .ok (.istore 4, 2) := dk_54 4 (dk_at dksX10_findWay_0 20 rfl rfl)
theorem dX10_findWay_22 : decode cX10_findWay 22 = .ok (.aload_n 0, 1) := dk_42 (dk_at dksX10_findWay_0 22 rfl rfl)
theorem dX10_findWay_23 : decode cX10_findWay 23 = .ok (.getfield 93, 3) := dk_180 0 93 (dk_at dksX10_findWay_1 0 rfl rfl)
theorem dX10_findWay_26 : decode cX10_findWay 26 = .ok (.iload 4, 2) := dk_21 4 (dk_at dksX10_findWay_1 3 rfl rfl)
theorem dX10_findWay_28 : decode cX10_findWay 28 = .ok (.iaload, 1) := dk_46 (dk_at dksX10_findWay_1 5 rfl rfl)
theorem dX10_findWay_29 : decode cX10_findWay 29 = .ok (.ifCond .lt 18, 3) := dk_155 0 18 (dk_at dksX10_findWay_1 6 rfl rfl)
theorem dX10_findWay_32 : decode cX10_findWay 32 = .ok (.iinc 3 1, 3) := dk_132 3 1 (dk_at dksX10_findWay_1 9 rfl rfl)
theorem dX10_findWay_35 : decode cX10_findWay 35 = .ok (.aload_n 0, 1) := dk_42 (dk_at dksX10_findWay_1 12 rfl rfl)
theorem dX10_findWay_36 : decode cX10_findWay 36 = .ok (.getfield 90, 3) := dk_180 0 90 (dk_at dksX10_findWay_1 13 rfl rfl)
theorem dX10_findWay_39 : decode cX10_findWay 39 = .ok (.iload 4, 2) := dk_21 4 (dk_at dksX10_findWay_1 16 rfl rfl)
theorem dX10_findWay_41 : decode cX10_findWay 41 = .ok (.iaload, 1) := dk_46 (dk_at dksX10_findWay_1 18 rfl rfl)
theorem dX10_findWay_42 : decode cX10_findWay 42 = .ok (.istore 4, 2) := dk_54 4 (dk_at dksX10_findWay_1 19 rfl rfl)
theorem dX10_findWay_44 : decode cX10_findWay 44 = .ok (.goto (-22), 3) := dk_167 255 234 (dk_at dksX10_findWay_1 21 rfl rfl)
theorem dX10_findWay_47 : decode cX10_findWay 47 = .ok (.aload_n 0, 1) := dk_42 (dk_at dksX10_findWay_2 0 rfl rfl)
theorem dX10_findWay_48 : decode cX10_findWay 48 = .ok (.iload_n 3, 1) := dk_29 (dk_at dksX10_findWay_2 1 rfl rfl)
theorem dX10_findWay_49 : decode cX10_findWay 49 = .ok (.putfield 423, 3) := dk_181 1 167 (dk_at dksX10_findWay_2 2 rfl rfl)
theorem dX10_findWay_52 : decode cX10_findWay 52 = .ok (.iload_n 3, 1) := dk_29 (dk_at dksX10_findWay_2 5 rfl rfl)
theorem dX10_findWay_53 : decode cX10_findWay 53 = .ok (.istore 4, 2) := dk_54 4 (dk_at dksX10_findWay_2 6 rfl rfl)
theorem dX10_findWay_55 : decode cX10_findWay 55 = .ok (.iload_n 2, 1) := dk_28 (dk_at dksX10_findWay_2 8 rfl rfl)
theorem dX10_findWay_56 : decode cX10_findWay 56 = .ok (.istore 5, 2) := dk_54 5 (dk_at dksX10_findWay_2 9 rfl rfl)
theorem dX10_findWay_58 : decode cX10_findWay 58 = .ok (.aload_n 0, 1) := dk_42 (dk_at dksX10_findWay_2 11 rfl rfl)
theorem dX10_findWay_59 : decode cX10_findWay 59 = .ok (.getfield 93, 3) := dk_180 0 93 (dk_at dksX10_findWay_2 12 rfl rfl)
theorem dX10_findWay_62 : decode cX10_findWay 62 = .ok (.iload 5, 2) := dk_21 5 (dk_at dksX10_findWay_2 15 rfl rfl)
theorem dX10_findWay_64 : decode cX10_findWay 64 = .ok (.iaload, 1) := dk_46 (dk_at dksX10_findWay_2 17 rfl rfl)
theorem dX10_findWay_65 : decode cX10_findWay 65 = .ok (.ifCond .lt 32, 3) := dk_155 0 32 (dk_at dksX10_findWay_2 18 rfl rfl)
theorem dX10_findWay_68 : decode cX10_findWay 68 = .ok (.iinc 4 (-1), 3) := dk_132 4 255 (dk_at dksX10_findWay_2 21 rfl rfl)
theorem dX10_findWay_71 : decode cX10_findWay 71 = .ok (.aload_n 0, 1) := dk_42 (dk_at dksX10_findWay_3 0 rfl rfl)
theorem dX10_findWay_72 : decode cX10_findWay 72 = .ok (.getfield 96, 3) := dk_180 0 96 (dk_at dksX10_findWay_3 1 rfl rfl)
theorem dX10_findWay_75 : decode cX10_findWay 75 = .ok (.iload 4, 2) := dk_21 4 (dk_at dksX10_findWay_3 4 rfl rfl)
theorem dX10_findWay_77 : decode cX10_findWay 77 = .ok (.aload_n 0, 1) := dk_42 (dk_at dksX10_findWay_3 6 rfl rfl)
theorem dX10_findWay_78 : decode cX10_findWay 78 = .ok (.getfield 93, 3) := dk_180 0 93 (dk_at dksX10_findWay_3 7 rfl rfl)
theorem dX10_findWay_81 : decode cX10_findWay 81 = .ok (.iload 5, 2) := dk_21 5 (dk_at dksX10_findWay_3 10 rfl rfl)
theorem dX10_findWay_83 : decode cX10_findWay 83 = .ok (.iaload, 1) := dk_46 (dk_at dksX10_findWay_3 12 rfl rfl)
theorem dX10_findWay_84 : decode cX10_findWay 84 = .ok (.iastore, 1) := dk_79 (dk_at dksX10_findWay_3 13 rfl rfl)
theorem dX10_findWay_85 : decode cX10_findWay 85 = .ok (.aload_n 0, 1) := dk_42 (dk_at dksX10_findWay_3 14 rfl rfl)
theorem dX10_findWay_86 : decode cX10_findWay 86 = .ok (.getfield 90, 3) := dk_180 0 90 (dk_at dksX10_findWay_3 15 rfl rfl)
theorem dX10_findWay_89 : decode cX10_findWay 89 = .ok (.iload 5, 2) := dk_21 5 (dk_at dksX10_findWay_3 18 rfl rfl)
theorem dX10_findWay_91 : decode cX10_findWay 91 = .ok (.iaload, 1) := dk_46 (dk_at dksX10_findWay_3 20 rfl rfl)
theorem dX10_findWay_92 : decode cX10_findWay 92 = .ok (.istore 5, 2) := dk_54 5 (dk_at dksX10_findWay_3 21 rfl rfl)
theorem dX10_findWay_94 : decode cX10_findWay 94 = .ok (.goto (-36), 3) := dk_167 255 220 (dk_at dksX10_findWay_4 0 rfl rfl)
theorem dX10_findWay_97 : decode cX10_findWay 97 = .ok (.iload_n 3, 1) := dk_29 (dk_at dksX10_findWay_4 3 rfl rfl)
theorem dX10_findWay_98 : decode cX10_findWay 98 = .ok (.ireturn, 1) := dk_172 (dk_at dksX10_findWay_4 4 rfl rfl)
theorem fl_X10_96 : gFl "BitingDoorsModel" 96 [8] 53 := by
  intro args s hts hN ci hc
  simp only [List.mem_cons, List.not_mem_nil, or_false] at hc
  subst hc
  exact ⟨RX10, TX10, 64, "BitingDoorsModel", gCl_X10, in_X10, by decide, Or.inl (hts _ q1703), fun _ h => h⟩
theorem fp_X10_423 {nm : String} : gFp "BitingDoorsModel" nm 423 [8] 56 .int := by
  intro args s hts hN ci hc
  simp only [List.mem_cons, List.not_mem_nil, or_false] at hc
  subst hc
  exact ⟨RX10, TX10, 64, "BitingDoorsModel", gCl_X10, in_X10, by decide, Or.inl ⟨rfl, Or.inl (hts _ q1706)⟩, fun _ h => h, rfl, fun D tys hK => gap_X10 hts hK⟩
theorem dn_X10_findWay : yX10_findWay.cls ≠ "java/lang/invoke/MethodHandle" ∧ yX10_findWay.cls ≠ "java/lang/invoke/VarHandle" ∧ (parseMethodDescriptor yX10_findWay.desc).map (fun d => d.parameters.length) = some 1 := by decide +kernel
noncomputable def M_X10_findWay (p1 : Int32) : TM Int32 := TM.bind (M_X10_takeNow) (fun v1 => TM.bind (M_X10_search p1) (fun v2 => if v2 = (-1) then TM.pure (-1) else TM.bind (TM.loop (S := Int32 × Int32) (E := Int32) (fun s3 => TM.bind (tA 52 24300 s3.2) (fun v7 => if v7 < 0 then TM.pure (Sum.inr s3.1) else TM.lv (s3.1 + 1) (fun v8 => TM.bind (tA 51 24300 s3.2) (fun v9 => TM.pure (Sum.inl (v8, v9)))))) (0, v2)) (fun e6 => TM.bind (sI 56 e6) (fun _ => TM.bind (TM.loop (S := Int32 × Int32) (E := Unit) (fun s10 => TM.bind (tA 52 24300 s10.2) (fun v14 => if v14 < 0 then TM.pure (Sum.inr ()) else TM.lv (s10.1 + (-1)) (fun v15 => TM.bind (tA 52 24300 s10.2) (fun v16 => TM.bind (sA 53 24300 v15 v16) (fun _ => TM.bind (tA 51 24300 s10.2) (fun v17 => TM.pure (Sum.inl (v15, v17)))))))) (e6, v2)) (fun e13 => TM.pure e6)))))
set_option maxHeartbeats 4000000 in
theorem ct_X10_findWay (G : gG) (am : Nat) (p1 : Int32) : gCtM G am yX10_findWay cX10_findWay 6 (some .int) 7 176 [.ref am, .int p1] (M_X10_findWay p1) (fun x : Int32 => some (.int x)) := by
  refine gCtM.of (by decide) (Nat.le_of_ble_eq_true rfl) (fun K hn ms ms' r hG X hK hd ho => ?_)
  subst hG
  have X : gX K cX10_findWay 6 "BitingDoorsModel" "findWay" (some .int) 7 176 := X
  show V K 6 (mkM am hn ms) 0 [(0, .ref am), (1, .int p1)] []
  unfold M_X10_findWay at hd
  refine v_aload_n X dX10_findWay_0 0 0 rfl rfl ?_
  refine t_callV X hK hd (ct_X10_takeNow _ am) (lw_V q2144 q2146 qs77 q120 q2147) ⟨rfl, dn_X10_takeNow⟩ rfl ⟨by decide, by decide⟩ rfl (Nat.le_of_ble_eq_true rfl) dX10_findWay_1 (fun v1 ms hd => ?_)
  show V K 6 (mkM am hn ms) 4 [(0, .ref am), (1, .int p1)] []
  refine v_aload_n X dX10_findWay_4 0 0 rfl rfl ?_
  refine v_iload_n X dX10_findWay_5 1 1 rfl rfl ?_
  refine t_callV X hK hd (ct_X10_search _ am p1) (lw_V q2240 q2242 qs93 q120 q2243) ⟨rfl, dn_X10_search⟩ rfl ⟨by decide, by decide⟩ rfl (Nat.le_of_ble_eq_true rfl) dX10_findWay_6 (fun v2 ms hd => ?_)
  show V K 6 (mkM am hn ms) 9 [(0, .ref am), (1, .int p1)] [.int v2]
  refine v_istore_n (lv2 := [(2, .int v2), (0, .ref am), (1, .int p1)]) X dX10_findWay_9 2 rfl (by decide) rfl ?_
  refine v_iload_n X dX10_findWay_10 0 2 rfl rfl ?_
  refine v_iconst (v := (-1)) X dX10_findWay_11 (by decide) ?_
  refine v_icmp_ne (tgt := 17) X dX10_findWay_12 (by decide) (fun q => ?_) (fun q => ?_)
  · have hd := Tite_f q hd
    refine v_iconst (v := 0) X dX10_findWay_17 (by decide) ?_
    refine v_istore_n (lv2 := [(3, .int 0), (2, .int v2), (0, .ref am), (1, .int p1)]) X dX10_findWay_18 3 rfl (by decide) rfl ?_
    refine v_iload_n X dX10_findWay_19 1 2 rfl rfl ?_
    refine v_istore (lv2 := [(4, .int v2), (3, .int 0), (2, .int v2), (0, .ref am), (1, .int p1)]) X dX10_findWay_20 (by decide) rfl ?_
    obtain ⟨e6, m1, hd, hd2⟩ := TM.bind_some hd
    have KX : V K 6 (mkM am hn m1) 47 [(0, .ref am), (2, .int v2), (3, .int e6)] [] := by
      clear hd
      have hd := hd2
      refine v_aload_n X dX10_findWay_47 0 0 rfl rfl ?_
      refine v_iload_n X dX10_findWay_48 2 3 rfl rfl ?_
      refine t_putI X hd rfl fp_X10_423 dX10_findWay_49 (fun ms hd => ?_)
      refine v_iload_n X dX10_findWay_52 2 3 rfl rfl ?_
      refine v_istore (lv2 := [(4, .int e6), (0, .ref am), (2, .int v2), (3, .int e6)]) X dX10_findWay_53 (by decide) rfl ?_
      refine v_iload_n X dX10_findWay_55 2 2 rfl rfl ?_
      refine v_istore (lv2 := [(5, .int v2), (4, .int e6), (0, .ref am), (2, .int v2), (3, .int e6)]) X dX10_findWay_56 (by decide) rfl ?_
      obtain ⟨e13, m1, hd, hd2⟩ := TM.bind_some hd
      have KX : V K 6 (mkM am hn m1) 97 [(3, .int e6)] [] := by
        clear hd
        have hd := hd2
        refine v_iload_n X dX10_findWay_97 0 3 rfl rfl ?_
        exact t_iret X hK hd ho dX10_findWay_98
      clear hd2
      refine v_loc [2, 4, 1, 0] rfl ?_
      refine Tloop_ind hd (fun (s10 : Int32 × Int32) m => V K 6 (mkM am hn m) 58 [(0, .ref am), (3, .int e6), (4, .int s10.1), (5, .int s10.2)] []) (fun s10 ms x m2 hd ih11 ho12 => ?_)
      refine v_aload_n X dX10_findWay_58 0 0 rfl rfl ?_
      refine t_getA (j := 27) X rfl fl_X10_93 dX10_findWay_59 ?_
      refine v_iload X dX10_findWay_62 3 rfl ?_
      refine t_iald (j := 27) X hd rfl dX10_findWay_64 (fun v14 hd => ?_)
      refine v_if_lt (tgt := 97) X dX10_findWay_65 (by decide) (fun q => ?_) (fun q => ?_)
      · have hd := Tite_t q hd
        exact v_loc [1] rfl (t_at (P := fun (e13 : Unit) m => V K 6 (mkM am hn m) 97 [(3, .int e6)] []) (Tlp_out hd ho12) KX)
      · have hd := Tite_f q hd
        refine t_iincL (lv2 := fun v15 => [(4, .int v15), (0, .ref am), (3, .int e6), (5, .int s10.2)]) X hd dX10_findWay_68 2 rfl (by decide : Int32.ofInt (-1) = (-1)) (by decide) (fun v15 => rfl) (fun v15 hd => ?_)
        refine v_aload_n X dX10_findWay_71 1 0 rfl rfl ?_
        refine t_getA (j := 28) X rfl fl_X10_96 dX10_findWay_72 ?_
        refine v_iload X dX10_findWay_75 0 rfl ?_
        refine v_aload_n X dX10_findWay_77 1 0 rfl rfl ?_
        refine t_getA (j := 27) X rfl fl_X10_93 dX10_findWay_78 ?_
        refine v_iload X dX10_findWay_81 3 rfl ?_
        refine t_iald (j := 27) X hd rfl dX10_findWay_83 (fun v16 hd => ?_)
        refine t_iast (j := 28) X hd rfl dX10_findWay_84 (fun ms hd => ?_)
        refine v_aload_n X dX10_findWay_85 1 0 rfl rfl ?_
        refine t_getA (j := 26) X rfl fl_X10_90 dX10_findWay_86 ?_
        refine v_iload X dX10_findWay_89 3 rfl ?_
        refine t_iald (j := 26) X hd rfl dX10_findWay_91 (fun v17 hd => ?_)
        refine v_istore (lv2 := [(5, .int v17), (4, .int v15), (0, .ref am), (3, .int e6)]) X dX10_findWay_92 (by decide) rfl ?_
        refine v_goto (tgt := 58) X dX10_findWay_94 (by decide) ?_
        exact v_loc [2, 3, 1, 0] rfl (Tlp_in (P := fun (s10 : Int32 × Int32) m => V K 6 (mkM am hn m) 58 [(0, .ref am), (3, .int e6), (4, .int s10.1), (5, .int s10.2)] []) hd ih11)
    clear hd2
    refine v_loc [3, 2, 1, 0] rfl ?_
    refine Tloop_ind hd (fun (s3 : Int32 × Int32) m => V K 6 (mkM am hn m) 22 [(0, .ref am), (2, .int v2), (3, .int s3.1), (4, .int s3.2)] []) (fun s3 ms x m2 hd ih4 ho5 => ?_)
    refine v_aload_n X dX10_findWay_22 0 0 rfl rfl ?_
    refine t_getA (j := 27) X rfl fl_X10_93 dX10_findWay_23 ?_
    refine v_iload X dX10_findWay_26 3 rfl ?_
    refine t_iald (j := 27) X hd rfl dX10_findWay_28 (fun v7 hd => ?_)
    refine v_if_lt (tgt := 47) X dX10_findWay_29 (by decide) (fun q => ?_) (fun q => ?_)
    · have hd := Tite_t q hd
      exact v_loc [0, 1, 2] rfl (t_at (P := fun (e6 : Int32) m => V K 6 (mkM am hn m) 47 [(0, .ref am), (2, .int v2), (3, .int e6)] []) (Tlp_out hd ho5) KX)
    · have hd := Tite_f q hd
      refine t_iincL (lv2 := fun v8 => [(3, .int v8), (0, .ref am), (2, .int v2), (4, .int s3.2)]) X hd dX10_findWay_32 2 rfl (by decide : Int32.ofInt 1 = 1) (by decide) (fun v8 => rfl) (fun v8 hd => ?_)
      refine v_aload_n X dX10_findWay_35 1 0 rfl rfl ?_
      refine t_getA (j := 26) X rfl fl_X10_90 dX10_findWay_36 ?_
      refine v_iload X dX10_findWay_39 3 rfl ?_
      refine t_iald (j := 26) X hd rfl dX10_findWay_41 (fun v9 hd => ?_)
      refine v_istore (lv2 := [(4, .int v9), (3, .int v8), (0, .ref am), (2, .int v2)]) X dX10_findWay_42 (by decide) rfl ?_
      refine v_goto (tgt := 22) X dX10_findWay_44 (by decide) ?_
      exact v_loc [2, 3, 1, 0] rfl (Tlp_in (P := fun (s3 : Int32 × Int32) m => V K 6 (mkM am hn m) 22 [(0, .ref am), (2, .int v2), (3, .int s3.1), (4, .int s3.2)] []) hd ih4)
  · have hd := Tite_t q hd
    refine v_iconst (v := (-1)) X dX10_findWay_15 (by decide) ?_
    exact t_iret X hK hd ho dX10_findWay_16
def dkwX10_way_4 : List UInt8 := [172]
abbrev dktX10_way_4 : List UInt8 := dkwX10_way_4 ++ []
def dkwX10_way_3 : List UInt8 := [162, 0, 23, 42, 180, 0, 99, 21, 4, 42, 180, 0, 96, 21, 4, 46, 79, 132, 4, 1, 167, 255, 233, 29]
abbrev dktX10_way_3 : List UInt8 := dkwX10_way_3 ++ dktX10_way_4
def dkwX10_way_2 : List UInt8 := [27, 96, 182, 1, 170, 62, 29, 2, 160, 0, 5, 2, 172, 42, 29, 181, 1, 173, 3, 54, 4, 21, 4, 29]
abbrev dktX10_way_2 : List UInt8 := dkwX10_way_2 ++ dktX10_way_3
def dkwX10_way_1 : List UInt8 := [17, 1, 84, 46, 2, 159, 0, 11, 42, 182, 0, 211, 8, 164, 0, 6, 16, 254, 172, 42, 16, 10, 28, 104]
abbrev dktX10_way_1 : List UInt8 := dkwX10_way_1 ++ dktX10_way_2
def dkwX10_way_0 : List UInt8 := [42, 3, 181, 0, 108, 42, 182, 0, 200, 42, 27, 28, 182, 1, 107, 153, 0, 23, 42, 180, 0, 13]
abbrev dktX10_way_0 : List UInt8 := dkwX10_way_0 ++ dktX10_way_1
theorem dksX10_way_0 : cX10_way.data.toList.drop 0 = dktX10_way_0 := by decide +kernel
theorem dksX10_way_1 : cX10_way.data.toList.drop 22 = dktX10_way_1 := dk_seg dksX10_way_0 22 rfl rfl
theorem dksX10_way_2 : cX10_way.data.toList.drop 46 = dktX10_way_2 := dk_seg dksX10_way_1 24 rfl rfl
theorem dksX10_way_3 : cX10_way.data.toList.drop 70 = dktX10_way_3 := dk_seg dksX10_way_2 24 rfl rfl
theorem dksX10_way_4 : cX10_way.data.toList.drop 94 = dktX10_way_4 := dk_seg dksX10_way_3 24 rfl rfl
theorem dX10_way_0 : decode cX10_way 0 = .ok (.aload_n 0, 1) := dk_42 (dk_at dksX10_way_0 0 rfl rfl)
theorem dX10_way_1 : decode cX10_way 1 = .ok (.iconst 0, 1) := dk_3 (dk_at dksX10_way_0 1 rfl rfl)
theorem dX10_way_2 : decode cX10_way 2 = .ok (.putfield 108, 3) := dk_181 0 108 (dk_at dksX10_way_0 2 rfl rfl)
theorem dX10_way_5 : decode cX10_way 5 = .ok (.aload_n 0, 1) := dk_42 (dk_at dksX10_way_0 5 rfl rfl)
theorem dX10_way_6 : decode cX10_way 6 = .ok (.invokevirtual 200, 3) := dk_182 0 200 (dk_at dksX10_way_0 6 rfl rfl)
theorem dX10_way_9 : decode cX10_way 9 = .ok (.aload_n 0, 1) := dk_42 (dk_at dksX10_way_0 9 rfl rfl)
theorem dX10_way_10 : decode cX10_way 10 = .ok (.iload_n 1, 1) := dk_27 (dk_at dksX10_way_0 10 rfl rfl)
theorem dX10_way_11 : decode cX10_way 11 = .ok (.iload_n 2, 1) := dk_28 (dk_at dksX10_way_0 11 rfl rfl)
theorem dX10_way_12 : decode cX10_way 12 = .ok (.invokevirtual 363, 3) := dk_182 1 107 (dk_at dksX10_way_0 12 rfl rfl)
theorem dX10_way_15 : decode cX10_way 15 = .ok (.ifCond .eq 23, 3) := dk_153 0 23 (dk_at dksX10_way_0 15 rfl rfl)
theorem dX10_way_18 : decode cX10_way 18 = .ok (.aload_n 0, 1) := dk_42 (dk_at dksX10_way_0 18 rfl rfl)
theorem dX10_way_19 : decode cX10_way 19 = .ok (.getfield 13, 3) := dk_180 0 13 (dk_at dksX10_way_0 19 rfl rfl)
theorem dX10_way_22 : decode cX10_way 22 = .ok (.sipush 340, 3) := dk_17 1 84 (dk_at dksX10_way_1 0 rfl rfl)
theorem dX10_way_25 : decode cX10_way 25 = .ok (.iaload, 1) := dk_46 (dk_at dksX10_way_1 3 rfl rfl)
theorem dX10_way_26 : decode cX10_way 26 = .ok (.iconst (-1), 1) := dk_2 (dk_at dksX10_way_1 4 rfl rfl)
theorem dX10_way_27 : decode cX10_way 27 = .ok (.if_icmp .eq 11, 3) := dk_159 0 11 (dk_at dksX10_way_1 5 rfl rfl)
theorem dX10_way_30 : decode cX10_way 30 = .ok (.aload_n 0, 1) := dk_42 (dk_at dksX10_way_1 8 rfl rfl)
theorem dX10_way_31 : decode cX10_way 31 = .ok (.invokevirtual 211, 3) := dk_182 0 211 (dk_at dksX10_way_1 9 rfl rfl)
theorem dX10_way_34 : decode cX10_way 34 = .ok (.iconst 5, 1) := dk_8 (dk_at dksX10_way_1 12 rfl rfl)
theorem dX10_way_35 : decode cX10_way 35 = .ok (.if_icmp .le 6, 3) := dk_164 0 6 (dk_at dksX10_way_1 13 rfl rfl)
theorem dX10_way_38 : decode cX10_way 38 = .ok (.bipush (-2), 2) := dk_16 254 (dk_at dksX10_way_1 16 rfl rfl)
theorem dX10_way_40 : decode cX10_way 40 = .ok (.ireturn, 1) := dk_172 (dk_at dksX10_way_1 18 rfl rfl)
theorem dX10_way_41 : decode cX10_way 41 = .ok (.aload_n 0, 1) := dk_42 (dk_at dksX10_way_1 19 rfl rfl)
theorem dX10_way_42 : decode cX10_way 42 = .ok (.bipush 10, 2) := dk_16 10 (dk_at dksX10_way_1 20 rfl rfl)
theorem dX10_way_44 : decode cX10_way 44 = .ok (.iload_n 2, 1) := dk_28 (dk_at dksX10_way_1 22 rfl rfl)
theorem dX10_way_45 : decode cX10_way 45 = .ok (.imul, 1) := dk_104 (dk_at dksX10_way_1 23 rfl rfl)
theorem dX10_way_46 : decode cX10_way 46 = .ok (.iload_n 1, 1) := dk_27 (dk_at dksX10_way_2 0 rfl rfl)
theorem dX10_way_47 : decode cX10_way 47 = .ok (.iadd, 1) := dk_96 (dk_at dksX10_way_2 1 rfl rfl)
theorem dX10_way_48 : decode cX10_way 48 = .ok (.invokevirtual 426, 3) := dk_182 1 170 (dk_at dksX10_way_2 2 rfl rfl)
theorem dX10_way_51 : decode cX10_way 51 = .ok (.istore_n 3, 1) := dk_62 (dk_at dksX10_way_2 5 rfl rfl)
theorem dX10_way_52 : decode cX10_way 52 = .ok (.iload_n 3, 1) := dk_29 (dk_at dksX10_way_2 6 rfl rfl)
theorem dX10_way_53 : decode cX10_way 53 = .ok (.iconst (-1), 1) := dk_2 (dk_at dksX10_way_2 7 rfl rfl)
theorem dX10_way_54 : decode cX10_way 54 = .ok (.if_icmp .ne 5, 3) := dk_160 0 5 (dk_at dksX10_way_2 8 rfl rfl)
theorem dX10_way_57 : decode cX10_way 57 = .ok (.iconst (-1), 1) := dk_2 (dk_at dksX10_way_2 11 rfl rfl)
theorem dX10_way_58 : decode cX10_way 58 = .ok (.ireturn, 1) := dk_172 (dk_at dksX10_way_2 12 rfl rfl)
theorem dX10_way_59 : decode cX10_way 59 = .ok (.aload_n 0, 1) := dk_42 (dk_at dksX10_way_2 13 rfl rfl)
theorem dX10_way_60 : decode cX10_way 60 = .ok (.iload_n 3, 1) := dk_29 (dk_at dksX10_way_2 14 rfl rfl)
theorem dX10_way_61 : decode cX10_way 61 = .ok (.putfield 429, 3) := dk_181 1 173 (dk_at dksX10_way_2 15 rfl rfl)
theorem dX10_way_64 : decode cX10_way 64 = .ok (.iconst 0, 1) := dk_3 (dk_at dksX10_way_2 18 rfl rfl)
theorem dX10_way_65 : decode cX10_way 65 = .ok (.istore 4, 2) := dk_54 4 (dk_at dksX10_way_2 19 rfl rfl)
theorem dX10_way_67 : decode cX10_way 67 = .ok (.iload 4, 2) := dk_21 4 (dk_at dksX10_way_2 21 rfl rfl)
theorem dX10_way_69 : decode cX10_way 69 = .ok (.iload_n 3, 1) := dk_29 (dk_at dksX10_way_2 23 rfl rfl)
theorem dX10_way_70 : decode cX10_way 70 = .ok (.if_icmp .ge 23, 3) := dk_162 0 23 (dk_at dksX10_way_3 0 rfl rfl)
theorem dX10_way_73 : decode cX10_way 73 = .ok (.aload_n 0, 1) := dk_42 (dk_at dksX10_way_3 3 rfl rfl)
theorem dX10_way_74 : decode cX10_way 74 = .ok (.getfield 99, 3) := dk_180 0 99 (dk_at dksX10_way_3 4 rfl rfl)
theorem dX10_way_77 : decode cX10_way 77 = .ok (.iload 4, 2) := dk_21 4 (dk_at dksX10_way_3 7 rfl rfl)
theorem dX10_way_79 : decode cX10_way 79 = .ok (.aload_n 0, 1) := dk_42 (dk_at dksX10_way_3 9 rfl rfl)
theorem dX10_way_80 : decode cX10_way 80 = .ok (.getfield 96, 3) := dk_180 0 96 (dk_at dksX10_way_3 10 rfl rfl)
theorem dX10_way_83 : decode cX10_way 83 = .ok (.iload 4, 2) := dk_21 4 (dk_at dksX10_way_3 13 rfl rfl)
theorem dX10_way_85 : decode cX10_way 85 = .ok (.iaload, 1) := dk_46 (dk_at dksX10_way_3 15 rfl rfl)
theorem dX10_way_86 : decode cX10_way 86 = .ok (.iastore, 1) := dk_79 (dk_at dksX10_way_3 16 rfl rfl)
theorem dX10_way_87 : decode cX10_way 87 = .ok (.iinc 4 1, 3) := dk_132 4 1 (dk_at dksX10_way_3 17 rfl rfl)
theorem dX10_way_90 : decode cX10_way 90 = .ok (.goto (-23), 3) := dk_167 255 233 (dk_at dksX10_way_3 20 rfl rfl)
theorem dX10_way_93 : decode cX10_way 93 = .ok (.iload_n 3, 1) := dk_29 (dk_at dksX10_way_3 23 rfl rfl)
theorem dX10_way_94 : decode cX10_way 94 = .ok (.ireturn, 1) := dk_172 (dk_at dksX10_way_4 0 rfl rfl)
theorem fl_X10_99 : gFl "BitingDoorsModel" 99 [8] 54 := by
  intro args s hts hN ci hc
  simp only [List.mem_cons, List.not_mem_nil, or_false] at hc
  subst hc
  exact ⟨RX10, TX10, 64, "BitingDoorsModel", gCl_X10, in_X10, by decide, Or.inl (hts _ q1704), fun _ h => h⟩
theorem fp_X10_429 {nm : String} : gFp "BitingDoorsModel" nm 429 [8] 57 .int := by
  intro args s hts hN ci hc
  simp only [List.mem_cons, List.not_mem_nil, or_false] at hc
  subst hc
  exact ⟨RX10, TX10, 64, "BitingDoorsModel", gCl_X10, in_X10, by decide, Or.inl ⟨rfl, Or.inl (hts _ q1707)⟩, fun _ h => h, rfl, fun D tys hK => gap_X10 hts hK⟩
theorem dn_X10_way : yX10_way.cls ≠ "java/lang/invoke/MethodHandle" ∧ yX10_way.cls ≠ "java/lang/invoke/VarHandle" ∧ (parseMethodDescriptor yX10_way.desc).map (fun d => d.parameters.length) = some 2 := by decide +kernel
noncomputable def M_X10_way (p1 : Int32) (p2 : Int32) : TM Int32 := TM.bind (sI 0 0) (fun _ => TM.bind (M_X10_lay) (fun v1 => TM.bind (M_X10_isWalked p1 p2) (fun v2 => cond v2 (TM.bind (tA 14 704 340) (fun v3 => if v3 = (-1) then TM.pure (-2) else TM.bind (M_X10_doors) (fun v4 => if v4 ≤ 5 then TM.bind (M_X10_findWay ((10 * p2) + p1)) (fun v5 => if v5 = (-1) then TM.pure (-1) else TM.bind (sI 57 v5) (fun _ => TM.bind (TM.loop (S := Int32) (E := Unit) (fun s6 => if v5 ≤ s6 then TM.pure (Sum.inr ()) else TM.bind (tA 53 24300 s6) (fun v10 => TM.bind (sA 54 24300 s6 v10) (fun _ => TM.lv (s6 + 1) (fun v11 => TM.pure (Sum.inl v11))))) 0) (fun e9 => TM.pure v5))) else TM.pure (-2)))) (TM.pure (-2)))))
set_option maxHeartbeats 4000000 in
theorem ct_X10_way (G : gG) (am : Nat) (p1 : Int32) (p2 : Int32) : gCtM G am yX10_way cX10_way 5 (some .int) 8 201 [.ref am, .int p1, .int p2] (M_X10_way p1 p2) (fun x : Int32 => some (.int x)) := by
  refine gCtM.of (by decide) (Nat.le_of_ble_eq_true rfl) (fun K hn ms ms' r hG X hK hd ho => ?_)
  subst hG
  have X : gX K cX10_way 5 "BitingDoorsModel" "way" (some .int) 8 201 := X
  show V K 5 (mkM am hn ms) 0 [(0, .ref am), (1, .int p1), (2, .int p2)] []
  unfold M_X10_way at hd
  refine v_aload_n X dX10_way_0 0 0 rfl rfl ?_
  refine v_iconst (v := 0) X dX10_way_1 (by decide) ?_
  refine t_putI X hd rfl fp_X10_108 dX10_way_2 (fun ms hd => ?_)
  refine v_aload_n X dX10_way_5 0 0 rfl rfl ?_
  refine t_callV X hK hd (ct_X10_lay _ am) (lw_V q1868 q1870 qs37 q120 q1871) ⟨rfl, dn_X10_lay⟩ rfl ⟨by decide, by decide⟩ rfl (Nat.le_of_ble_eq_true rfl) dX10_way_6 (fun v1 ms hd => ?_)
  show V K 5 (mkM am hn ms) 9 [(0, .ref am), (1, .int p1), (2, .int p2)] []
  refine v_aload_n X dX10_way_9 0 0 rfl rfl ?_
  refine v_iload_n X dX10_way_10 1 1 rfl rfl ?_
  refine v_iload_n X dX10_way_11 2 2 rfl rfl ?_
  refine t_callV X hK hd (ct_X10_isWalked _ am p1 p2) (lw_V q2152 q2154 qs79 q120 q2155) ⟨rfl, dn_X10_isWalked⟩ rfl ⟨by decide, by decide⟩ rfl (Nat.le_of_ble_eq_true rfl) dX10_way_12 (fun v2 ms hd => ?_)
  show V K 5 (mkM am hn ms) 15 [(0, .ref am), (1, .int p1), (2, .int p2)] [.int (b2i v2)]
  refine v_ifZ_eq (tgt := 38) X dX10_way_15 (by decide) (fun q => ?_) (fun q => ?_)
  · have hd := Tcnd_f q hd
    refine v_bipush (v := (-2)) X dX10_way_38 (by decide) ?_
    exact t_iret X hK hd ho dX10_way_40
  · have hd := Tcnd_t q hd
    refine v_aload_n X dX10_way_18 0 0 rfl rfl ?_
    refine t_getA (j := 1) X rfl fl_X10_13 dX10_way_19 ?_
    refine v_sipush (v := 340) X dX10_way_22 (by decide) ?_
    refine t_iald (j := 1) X hd rfl dX10_way_25 (fun v3 hd => ?_)
    refine v_iconst (v := (-1)) X dX10_way_26 (by decide) ?_
    refine v_icmp_eq (tgt := 38) X dX10_way_27 (by decide) (fun q => ?_) (fun q => ?_)
    · have hd := Tite_t q hd
      refine v_bipush (v := (-2)) X dX10_way_38 (by decide) ?_
      exact t_iret X hK hd ho dX10_way_40
    · have hd := Tite_f q hd
      refine v_aload_n X dX10_way_30 0 0 rfl rfl ?_
      refine t_callV X hK hd (ct_X10_doors _ am) (lw_V q1986 q1988 qs57 q120 q1989) ⟨rfl, dn_X10_doors⟩ rfl ⟨by decide, by decide⟩ rfl (Nat.le_of_ble_eq_true rfl) dX10_way_31 (fun v4 ms hd => ?_)
      show V K 5 (mkM am hn ms) 34 [(0, .ref am), (1, .int p1), (2, .int p2)] [.int v4]
      refine v_iconst (v := 5) X dX10_way_34 (by decide) ?_
      refine v_icmp_le (tgt := 41) X dX10_way_35 (by decide) (fun q => ?_) (fun q => ?_)
      · have hd := Tite_t q hd
        refine v_aload_n X dX10_way_41 0 0 rfl rfl ?_
        refine v_bipush (v := 10) X dX10_way_42 (by decide) ?_
        refine v_iload_n X dX10_way_44 2 2 rfl rfl ?_
        refine v_imul X dX10_way_45 ?_
        refine v_iload_n X dX10_way_46 1 1 rfl rfl ?_
        refine v_iadd X dX10_way_47 ?_
        refine t_callV X hK hd (ct_X10_findWay _ am ((10 * p2) + p1)) (lw_V q2236 q2238 qs92 q120 q2239) ⟨rfl, dn_X10_findWay⟩ rfl ⟨by decide, by decide⟩ rfl (Nat.le_of_ble_eq_true rfl) dX10_way_48 (fun v5 ms hd => ?_)
        show V K 5 (mkM am hn ms) 51 [(0, .ref am), (1, .int p1), (2, .int p2)] [.int v5]
        refine v_istore_n (lv2 := [(3, .int v5), (0, .ref am), (1, .int p1), (2, .int p2)]) X dX10_way_51 3 rfl (by decide) rfl ?_
        refine v_iload_n X dX10_way_52 0 3 rfl rfl ?_
        refine v_iconst (v := (-1)) X dX10_way_53 (by decide) ?_
        refine v_icmp_ne (tgt := 59) X dX10_way_54 (by decide) (fun q => ?_) (fun q => ?_)
        · have hd := Tite_f q hd
          refine v_aload_n X dX10_way_59 1 0 rfl rfl ?_
          refine v_iload_n X dX10_way_60 0 3 rfl rfl ?_
          refine t_putI X hd rfl fp_X10_429 dX10_way_61 (fun ms hd => ?_)
          refine v_iconst (v := 0) X dX10_way_64 (by decide) ?_
          refine v_istore (lv2 := [(4, .int 0), (3, .int v5), (0, .ref am), (1, .int p1), (2, .int p2)]) X dX10_way_65 (by decide) rfl ?_
          obtain ⟨e9, m1, hd, hd2⟩ := TM.bind_some hd
          have KX : V K 5 (mkM am hn m1) 93 [(3, .int v5)] [] := by
            clear hd
            have hd := hd2
            refine v_iload_n X dX10_way_93 0 3 rfl rfl ?_
            exact t_iret X hK hd ho dX10_way_94
          clear hd2
          refine v_loc [2, 1, 0] rfl ?_
          refine Tloop_ind hd (fun (s6 : Int32) m => V K 5 (mkM am hn m) 67 [(0, .ref am), (3, .int v5), (4, .int s6)] []) (fun s6 ms x m2 hd ih7 ho8 => ?_)
          refine v_iload X dX10_way_67 2 rfl ?_
          refine v_iload_n X dX10_way_69 1 3 rfl rfl ?_
          refine v_icmp_ge (tgt := 93) X dX10_way_70 (by decide) (fun q => ?_) (fun q => ?_)
          · have hd := Tite_t q hd
            exact v_loc [1] rfl (t_at (P := fun (e9 : Unit) m => V K 5 (mkM am hn m) 93 [(3, .int v5)] []) (Tlp_out hd ho8) KX)
          · have hd := Tite_f q hd
            refine v_aload_n X dX10_way_73 0 0 rfl rfl ?_
            refine t_getA (j := 29) X rfl fl_X10_99 dX10_way_74 ?_
            refine v_iload X dX10_way_77 2 rfl ?_
            refine v_aload_n X dX10_way_79 0 0 rfl rfl ?_
            refine t_getA (j := 28) X rfl fl_X10_96 dX10_way_80 ?_
            refine v_iload X dX10_way_83 2 rfl ?_
            refine t_iald (j := 28) X hd rfl dX10_way_85 (fun v10 hd => ?_)
            refine t_iast (j := 29) X hd rfl dX10_way_86 (fun ms hd => ?_)
            refine t_iincL (lv2 := fun v11 => [(4, .int v11), (0, .ref am), (3, .int v5)]) X hd dX10_way_87 2 rfl (by decide : Int32.ofInt 1 = 1) (by decide) (fun v11 => rfl) (fun v11 hd => ?_)
            refine v_goto (tgt := 67) X dX10_way_90 (by decide) ?_
            exact v_loc [1, 2, 0] rfl (Tlp_in (P := fun (s6 : Int32) m => V K 5 (mkM am hn m) 67 [(0, .ref am), (3, .int v5), (4, .int s6)] []) hd ih7)
        · have hd := Tite_t q hd
          refine v_iconst (v := (-1)) X dX10_way_57 (by decide) ?_
          exact t_iret X hK hd ho dX10_way_58
      · have hd := Tite_f q hd
        refine v_bipush (v := (-2)) X dX10_way_38 (by decide) ?_
        exact t_iret X hK hd ho dX10_way_40
def dkwX10_isFit_1 : List UInt8 := [182, 1, 26, 153, 0, 7, 4, 167, 0, 4, 3, 172]
abbrev dktX10_isFit_1 : List UInt8 := dkwX10_isFit_1 ++ []
def dkwX10_isFit_0 : List UInt8 := [42, 27, 28, 4, 182, 1, 26, 153, 0, 27, 42, 27, 16, 7, 182, 1, 11, 153, 0, 13, 42, 27, 28, 5]
abbrev dktX10_isFit_0 : List UInt8 := dkwX10_isFit_0 ++ dktX10_isFit_1
theorem dksX10_isFit_0 : cX10_isFit.data.toList.drop 0 = dktX10_isFit_0 := by decide +kernel
theorem dksX10_isFit_1 : cX10_isFit.data.toList.drop 24 = dktX10_isFit_1 := dk_seg dksX10_isFit_0 24 rfl rfl
theorem dX10_isFit_0 : decode cX10_isFit 0 = .ok (.aload_n 0, 1) := dk_42 (dk_at dksX10_isFit_0 0 rfl rfl)
theorem dX10_isFit_1 : decode cX10_isFit 1 = .ok (.iload_n 1, 1) := dk_27 (dk_at dksX10_isFit_0 1 rfl rfl)
theorem dX10_isFit_2 : decode cX10_isFit 2 = .ok (.iload_n 2, 1) := dk_28 (dk_at dksX10_isFit_0 2 rfl rfl)
theorem dX10_isFit_3 : decode cX10_isFit 3 = .ok (.iconst 1, 1) := dk_4 (dk_at dksX10_isFit_0 3 rfl rfl)
theorem dX10_isFit_4 : decode cX10_isFit 4 = .ok (.invokevirtual 282, 3) := dk_182 1 26 (dk_at dksX10_isFit_0 4 rfl rfl)
theorem dX10_isFit_7 : decode cX10_isFit 7 = .ok (.ifCond .eq 27, 3) := dk_153 0 27 (dk_at dksX10_isFit_0 7 rfl rfl)
theorem dX10_isFit_10 : decode cX10_isFit 10 = .ok (.aload_n 0, 1) := dk_42 (dk_at dksX10_isFit_0 10 rfl rfl)
theorem dX10_isFit_11 : decode cX10_isFit 11 = .ok (.iload_n 1, 1) := dk_27 (dk_at dksX10_isFit_0 11 rfl rfl)
theorem dX10_isFit_12 : decode cX10_isFit 12 = .ok (.bipush 7, 2) := dk_16 7 (dk_at dksX10_isFit_0 12 rfl rfl)
theorem dX10_isFit_14 : decode cX10_isFit 14 = .ok (.invokevirtual 267, 3) := dk_182 1 11 (dk_at dksX10_isFit_0 14 rfl rfl)
theorem dX10_isFit_17 : decode cX10_isFit 17 = .ok (.ifCond .eq 13, 3) := dk_153 0 13 (dk_at dksX10_isFit_0 17 rfl rfl)
theorem dX10_isFit_20 : decode cX10_isFit 20 = .ok (.aload_n 0, 1) := dk_42 (dk_at dksX10_isFit_0 20 rfl rfl)
theorem dX10_isFit_21 : decode cX10_isFit 21 = .ok (.iload_n 1, 1) := dk_27 (dk_at dksX10_isFit_0 21 rfl rfl)
theorem dX10_isFit_22 : decode cX10_isFit 22 = .ok (.iload_n 2, 1) := dk_28 (dk_at dksX10_isFit_0 22 rfl rfl)
theorem dX10_isFit_23 : decode cX10_isFit 23 = .ok (.iconst 2, 1) := dk_5 (dk_at dksX10_isFit_0 23 rfl rfl)
theorem dX10_isFit_24 : decode cX10_isFit 24 = .ok (.invokevirtual 282, 3) := dk_182 1 26 (dk_at dksX10_isFit_1 0 rfl rfl)
theorem dX10_isFit_27 : decode cX10_isFit 27 = .ok (.ifCond .eq 7, 3) := dk_153 0 7 (dk_at dksX10_isFit_1 3 rfl rfl)
theorem dX10_isFit_30 : decode cX10_isFit 30 = .ok (.iconst 1, 1) := dk_4 (dk_at dksX10_isFit_1 6 rfl rfl)
theorem dX10_isFit_31 : decode cX10_isFit 31 = .ok (.goto 4, 3) := dk_167 0 4 (dk_at dksX10_isFit_1 7 rfl rfl)
theorem dX10_isFit_34 : decode cX10_isFit 34 = .ok (.iconst 0, 1) := dk_3 (dk_at dksX10_isFit_1 10 rfl rfl)
theorem dX10_isFit_35 : decode cX10_isFit 35 = .ok (.ireturn, 1) := dk_172 (dk_at dksX10_isFit_1 11 rfl rfl)
theorem dn_X10_isFit : yX10_isFit.cls ≠ "java/lang/invoke/MethodHandle" ∧ yX10_isFit.cls ≠ "java/lang/invoke/VarHandle" ∧ (parseMethodDescriptor yX10_isFit.desc).map (fun d => d.parameters.length) = some 2 := by decide +kernel
noncomputable def M_X10_isFit (p1 : Int32) (p2 : Int32) : TM Bool := TM.bind (M_X10_canBe p1 p2 1) (fun v1 => TM.bind ((cond v1 (TM.bind (M_X10_of p1 7) (fun v3 => if v3 = 0 then TM.pure true else TM.bind (M_X10_canBe p1 p2 2) (fun v4 => cond v4 (TM.pure true) (TM.pure false)))) (TM.pure false) : TM (Bool))) (fun u2 => TM.pure u2))
set_option maxHeartbeats 4000000 in
theorem ct_X10_isFit (G : gG) (am : Nat) (p1 : Int32) (p2 : Int32) : gCtM G am yX10_isFit cX10_isFit 3 (some .boolean) 3 79 [.ref am, .int p1, .int p2] (M_X10_isFit p1 p2) (fun x : Bool => some (.int (b2i x))) := by
  refine gCtM.of (by decide) (Nat.le_of_ble_eq_true rfl) (fun K hn ms ms' r hG X hK hd ho => ?_)
  subst hG
  have X : gX K cX10_isFit 3 "BitingDoorsModel" "isFit" (some .boolean) 3 79 := X
  show V K 3 (mkM am hn ms) 0 [(0, .ref am), (1, .int p1), (2, .int p2)] []
  unfold M_X10_isFit at hd
  refine v_aload_n X dX10_isFit_0 0 0 rfl rfl ?_
  refine v_iload_n X dX10_isFit_1 1 1 rfl rfl ?_
  refine v_iload_n X dX10_isFit_2 2 2 rfl rfl ?_
  refine v_iconst (v := 1) X dX10_isFit_3 (by decide) ?_
  refine t_callV X hK hd (ct_X10_canBe _ am p1 p2 1) (lw_V q2014 q2016 qs62 q120 q2017) ⟨rfl, dn_X10_canBe⟩ rfl ⟨by decide, by decide⟩ rfl (Nat.le_of_ble_eq_true rfl) dX10_isFit_4 (fun v1 ms hd => ?_)
  show V K 3 (mkM am hn ms) 7 [(0, .ref am), (1, .int p1), (2, .int p2)] [.int (b2i v1)]
  obtain ⟨u2, m1, hd, hd2⟩ := TM.bind_some hd
  have KJ : V K 3 (mkM am hn m1) 35 [] [.int (b2i u2)] := by
    clear hd
    have hd := hd2
    exact t_zret X hK hd rfl ho dX10_isFit_35
  clear hd2
  refine v_ifZ_eq (tgt := 34) X dX10_isFit_7 (by decide) (fun q => ?_) (fun q => ?_)
  · have hd := Tcnd_f q hd
    refine v_iconst (v := 0) X dX10_isFit_34 (by decide) ?_
    exact v_loc [] rfl (t_at (P := fun (u2 : Bool) m => V K 3 (mkM am hn m) 35 [] [.int (b2i u2)]) hd KJ)
  · have hd := Tcnd_t q hd
    refine v_aload_n X dX10_isFit_10 0 0 rfl rfl ?_
    refine v_iload_n X dX10_isFit_11 1 1 rfl rfl ?_
    refine v_bipush (v := 7) X dX10_isFit_12 (by decide) ?_
    refine t_callV X hK hd (ct_X10_of _ am p1 7) (lw_V q1994 q1996 qs59 q120 q1997) ⟨rfl, dn_X10_of⟩ rfl ⟨by decide, by decide⟩ rfl (Nat.le_of_ble_eq_true rfl) dX10_isFit_14 (fun v3 ms hd => ?_)
    show V K 3 (mkM am hn ms) 17 [(0, .ref am), (1, .int p1), (2, .int p2)] [.int v3]
    refine v_if_eq (tgt := 30) X dX10_isFit_17 (by decide) (fun q => ?_) (fun q => ?_)
    · have hd := Tite_t q hd
      refine v_iconst (v := 1) X dX10_isFit_30 (by decide) ?_
      refine v_goto (tgt := 35) X dX10_isFit_31 (by decide) ?_
      exact v_loc [] rfl (t_at (P := fun (u2 : Bool) m => V K 3 (mkM am hn m) 35 [] [.int (b2i u2)]) hd KJ)
    · have hd := Tite_f q hd
      refine v_aload_n X dX10_isFit_20 0 0 rfl rfl ?_
      refine v_iload_n X dX10_isFit_21 1 1 rfl rfl ?_
      refine v_iload_n X dX10_isFit_22 2 2 rfl rfl ?_
      refine v_iconst (v := 2) X dX10_isFit_23 (by decide) ?_
      refine t_callV X hK hd (ct_X10_canBe _ am p1 p2 2) (lw_V q2014 q2016 qs62 q120 q2017) ⟨rfl, dn_X10_canBe⟩ rfl ⟨by decide, by decide⟩ rfl (Nat.le_of_ble_eq_true rfl) dX10_isFit_24 (fun v4 ms hd => ?_)
      show V K 3 (mkM am hn ms) 27 [(0, .ref am), (1, .int p1), (2, .int p2)] [.int (b2i v4)]
      refine v_ifZ_eq (tgt := 34) X dX10_isFit_27 (by decide) (fun q => ?_) (fun q => ?_)
      · have hd := Tcnd_f q hd
        refine v_iconst (v := 0) X dX10_isFit_34 (by decide) ?_
        exact v_loc [] rfl (t_at (P := fun (u2 : Bool) m => V K 3 (mkM am hn m) 35 [] [.int (b2i u2)]) hd KJ)
      · have hd := Tcnd_t q hd
        refine v_iconst (v := 1) X dX10_isFit_30 (by decide) ?_
        refine v_goto (tgt := 35) X dX10_isFit_31 (by decide) ?_
        exact v_loc [] rfl (t_at (P := fun (u2 : Bool) m => V K 3 (mkM am hn m) 35 [] [.int (b2i u2)]) hd KJ)
def dkwX10_laySwept_8 : List UInt8 := [132, 2, 1, 167, 255, 88, 132, 1, 1, 167, 255, 65, 177]
abbrev dktX10_laySwept_8 : List UInt8 := dkwX10_laySwept_8 ++ []
def dkwX10_laySwept_7 : List UInt8 := [92, 47, 10, 21, 6, 16, 50, 100, 121, 129, 80, 132, 5, 1, 167, 255, 185, 132, 4, 1, 167, 255, 156]
abbrev dktX10_laySwept_7 : List UInt8 := dkwX10_laySwept_7 ++ dktX10_laySwept_8
def dkwX10_laySwept_6 : List UInt8 := [162, 0, 19, 42, 180, 0, 45, 29, 92, 47, 10, 21, 6, 121, 129, 80, 167, 0, 19, 42, 180, 0, 48, 29]
abbrev dktX10_laySwept_6 : List UInt8 := dkwX10_laySwept_6 ++ dktX10_laySwept_7
def dkwX10_laySwept_5 : List UInt8 := [16, 10, 42, 180, 0, 42, 21, 5, 46, 104, 42, 180, 0, 39, 21, 5, 46, 96, 54, 6, 21, 6, 16, 50]
abbrev dktX10_laySwept_5 : List UInt8 := dkwX10_laySwept_5 ++ dktX10_laySwept_6
def dkwX10_laySwept_4 : List UInt8 := [21, 4, 182, 1, 26, 154, 0, 6, 167, 0, 80, 3, 54, 5, 21, 5, 42, 180, 1, 15, 162, 0, 68]
abbrev dktX10_laySwept_4 : List UInt8 := dkwX10_laySwept_4 ++ dktX10_laySwept_5
def dkwX10_laySwept_3 : List UInt8 := [180, 0, 51, 27, 92, 46, 4, 28, 120, 128, 79, 4, 54, 4, 21, 4, 6, 162, 0, 100, 42, 27, 28]
abbrev dktX10_laySwept_3 : List UInt8 := dkwX10_laySwept_3 ++ dktX10_laySwept_4
def dkwX10_laySwept_2 : List UInt8 := [42, 27, 8, 182, 1, 11, 28, 184, 0, 231, 153, 0, 24, 42, 27, 28, 182, 1, 29, 153, 0, 15, 42]
abbrev dktX10_laySwept_2 : List UInt8 := dkwX10_laySwept_2 ++ dktX10_laySwept_3
def dkwX10_laySwept_1 : List UInt8 := [7, 162, 0, 169, 7, 27, 104, 28, 96, 62, 42, 180, 0, 45, 29, 9, 80, 42, 180, 0, 48, 29, 9, 80]
abbrev dktX10_laySwept_1 : List UInt8 := dkwX10_laySwept_1 ++ dktX10_laySwept_2
def dkwX10_laySwept_0 : List UInt8 := [42, 182, 0, 200, 3, 60, 27, 42, 182, 0, 211, 162, 0, 189, 42, 180, 0, 51, 27, 3, 79, 3, 61, 28]
abbrev dktX10_laySwept_0 : List UInt8 := dkwX10_laySwept_0 ++ dktX10_laySwept_1
theorem dksX10_laySwept_0 : cX10_laySwept.data.toList.drop 0 = dktX10_laySwept_0 := by decide +kernel
theorem dksX10_laySwept_1 : cX10_laySwept.data.toList.drop 24 = dktX10_laySwept_1 := dk_seg dksX10_laySwept_0 24 rfl rfl
theorem dksX10_laySwept_2 : cX10_laySwept.data.toList.drop 48 = dktX10_laySwept_2 := dk_seg dksX10_laySwept_1 24 rfl rfl
theorem dksX10_laySwept_3 : cX10_laySwept.data.toList.drop 71 = dktX10_laySwept_3 := dk_seg dksX10_laySwept_2 23 rfl rfl
theorem dksX10_laySwept_4 : cX10_laySwept.data.toList.drop 94 = dktX10_laySwept_4 := dk_seg dksX10_laySwept_3 23 rfl rfl
theorem dksX10_laySwept_5 : cX10_laySwept.data.toList.drop 117 = dktX10_laySwept_5 := dk_seg dksX10_laySwept_4 23 rfl rfl
theorem dksX10_laySwept_6 : cX10_laySwept.data.toList.drop 141 = dktX10_laySwept_6 := dk_seg dksX10_laySwept_5 24 rfl rfl
theorem dksX10_laySwept_7 : cX10_laySwept.data.toList.drop 165 = dktX10_laySwept_7 := dk_seg dksX10_laySwept_6 24 rfl rfl
theorem dksX10_laySwept_8 : cX10_laySwept.data.toList.drop 188 = dktX10_laySwept_8 := dk_seg dksX10_laySwept_7 23 rfl rfl
theorem dX10_laySwept_0 : decode cX10_laySwept 0 = .ok (.aload_n 0, 1) := dk_42 (dk_at dksX10_laySwept_0 0 rfl rfl)
theorem dX10_laySwept_1 : decode cX10_laySwept 1 = .ok (.invokevirtual 200, 3) := dk_182 0 200 (dk_at dksX10_laySwept_0 1 rfl rfl)
theorem dX10_laySwept_4 : decode cX10_laySwept 4 = .ok (.iconst 0, 1) := dk_3 (dk_at dksX10_laySwept_0 4 rfl rfl)
theorem dX10_laySwept_5 : decode cX10_laySwept 5 = .ok (.istore_n 1, 1) := dk_60 (dk_at dksX10_laySwept_0 5 rfl rfl)
theorem dX10_laySwept_6 : decode cX10_laySwept 6 = .ok (.iload_n 1, 1) := dk_27 (dk_at dksX10_laySwept_0 6 rfl rfl)
theorem dX10_laySwept_7 : decode cX10_laySwept 7 = .ok (.aload_n 0, 1) := dk_42 (dk_at dksX10_laySwept_0 7 rfl rfl)
theorem dX10_laySwept_8 : decode cX10_laySwept 8 = .ok (.invokevirtual 211, 3) := dk_182 0 211 (dk_at dksX10_laySwept_0 8 rfl rfl)
theorem dX10_laySwept_11 : decode cX10_laySwept 11 = .ok (.if_icmp .ge 189, 3) := dk_162 0 189 (dk_at dksX10_laySwept_0 11 rfl rfl)
theorem dX10_laySwept_14 : decode cX10_laySwept 14 = .ok (.aload_n 0, 1) := dk_42 (dk_at dksX10_laySwept_0 14 rfl rfl)
theorem dX10_laySwept_15 : decode cX10_laySwept 15 = .ok (.getfield 51, 3) := dk_180 0 51 (dk_at dksX10_laySwept_0 15 rfl rfl)
theorem dX10_laySwept_18 : decode cX10_laySwept 18 = .ok (.iload_n 1, 1) := dk_27 (dk_at dksX10_laySwept_0 18 rfl rfl)
theorem dX10_laySwept_19 : decode cX10_laySwept 19 = .ok (.iconst 0, 1) := dk_3 (dk_at dksX10_laySwept_0 19 rfl rfl)
theorem dX10_laySwept_20 : decode cX10_laySwept 20 = .ok (.iastore, 1) := dk_79 (dk_at dksX10_laySwept_0 20 rfl rfl)
theorem dX10_laySwept_21 : decode cX10_laySwept 21 = .ok (.iconst 0, 1) := dk_3 (dk_at dksX10_laySwept_0 21 rfl rfl)
theorem dX10_laySwept_22 : decode cX10_laySwept 22 = .ok (.istore_n 2, 1) := dk_61 (dk_at dksX10_laySwept_0 22 rfl rfl)
theorem dX10_laySwept_23 : decode cX10_laySwept 23 = .ok (.iload_n 2, 1) := dk_28 (dk_at dksX10_laySwept_0 23 rfl rfl)
theorem dX10_laySwept_24 : decode cX10_laySwept 24 = .ok (.iconst 4, 1) := dk_7 (dk_at dksX10_laySwept_1 0 rfl rfl)
theorem dX10_laySwept_25 : decode cX10_laySwept 25 = .ok (.if_icmp .ge 169, 3) := dk_162 0 169 (dk_at dksX10_laySwept_1 1 rfl rfl)
theorem dX10_laySwept_28 : decode cX10_laySwept 28 = .ok (.iconst 4, 1) := dk_7 (dk_at dksX10_laySwept_1 4 rfl rfl)
theorem dX10_laySwept_29 : decode cX10_laySwept 29 = .ok (.iload_n 1, 1) := dk_27 (dk_at dksX10_laySwept_1 5 rfl rfl)
theorem dX10_laySwept_30 : decode cX10_laySwept 30 = .ok (.imul, 1) := dk_104 (dk_at dksX10_laySwept_1 6 rfl rfl)
theorem dX10_laySwept_31 : decode cX10_laySwept 31 = .ok (.iload_n 2, 1) := dk_28 (dk_at dksX10_laySwept_1 7 rfl rfl)
theorem dX10_laySwept_32 : decode cX10_laySwept 32 = .ok (.iadd, 1) := dk_96 (dk_at dksX10_laySwept_1 8 rfl rfl)
theorem dX10_laySwept_33 : decode cX10_laySwept 33 = .ok (.istore_n 3, 1) := dk_62 (dk_at dksX10_laySwept_1 9 rfl rfl)
theorem dX10_laySwept_34 : decode cX10_laySwept 34 = .ok (.aload_n 0, 1) := dk_42 (dk_at dksX10_laySwept_1 10 rfl rfl)
theorem dX10_laySwept_35 : decode cX10_laySwept 35 = .ok (.getfield 45, 3) := dk_180 0 45 (dk_at dksX10_laySwept_1 11 rfl rfl)
theorem dX10_laySwept_38 : decode cX10_laySwept 38 = .ok (.iload_n 3, 1) := dk_29 (dk_at dksX10_laySwept_1 14 rfl rfl)
theorem dX10_laySwept_39 : decode cX10_laySwept 39 = .ok (.lconst 0, 1) := dk_9 (dk_at dksX10_laySwept_1 15 rfl rfl)
theorem dX10_laySwept_40 : decode cX10_laySwept 40 = .ok (.lastore, 1) := dk_80 (dk_at dksX10_laySwept_1 16 rfl rfl)
theorem dX10_laySwept_41 : decode cX10_laySwept 41 = .ok (.aload_n 0, 1) := dk_42 (dk_at dksX10_laySwept_1 17 rfl rfl)
theorem dX10_laySwept_42 : decode cX10_laySwept 42 = .ok (.getfield 48, 3) := dk_180 0 48 (dk_at dksX10_laySwept_1 18 rfl rfl)
theorem dX10_laySwept_45 : decode cX10_laySwept 45 = .ok (.iload_n 3, 1) := dk_29 (dk_at dksX10_laySwept_1 21 rfl rfl)
theorem dX10_laySwept_46 : decode cX10_laySwept 46 = .ok (.lconst 0, 1) := dk_9 (dk_at dksX10_laySwept_1 22 rfl rfl)
theorem dX10_laySwept_47 : decode cX10_laySwept 47 = .ok (.lastore, 1) := dk_80 (dk_at dksX10_laySwept_1 23 rfl rfl)
theorem dX10_laySwept_48 : decode cX10_laySwept 48 = .ok (.aload_n 0, 1) := dk_42 (dk_at dksX10_laySwept_2 0 rfl rfl)
theorem dX10_laySwept_49 : decode cX10_laySwept 49 = .ok (.iload_n 1, 1) := dk_27 (dk_at dksX10_laySwept_2 1 rfl rfl)
theorem dX10_laySwept_50 : decode cX10_laySwept 50 = .ok (.iconst 5, 1) := dk_8 (dk_at dksX10_laySwept_2 2 rfl rfl)
theorem dX10_laySwept_51 : decode cX10_laySwept 51 = .ok (.invokevirtual 267, 3) := dk_182 1 11 (dk_at dksX10_laySwept_2 3 rfl rfl)
theorem dX10_laySwept_54 : decode cX10_laySwept 54 = .ok (.iload_n 2, 1) := dk_28 (dk_at dksX10_laySwept_2 6 rfl rfl)
theorem dX10_laySwept_55 : decode cX10_laySwept 55 = .ok (.invokestatic 231, 3) := dk_184 0 231 (dk_at dksX10_laySwept_2 7 rfl rfl)
theorem dX10_laySwept_58 : decode cX10_laySwept 58 = .ok (.ifCond .eq 24, 3) := dk_153 0 24 (dk_at dksX10_laySwept_2 10 rfl rfl)
theorem dX10_laySwept_61 : decode cX10_laySwept 61 = .ok (.aload_n 0, 1) := dk_42 (dk_at dksX10_laySwept_2 13 rfl rfl)
theorem dX10_laySwept_62 : decode cX10_laySwept 62 = .ok (.iload_n 1, 1) := dk_27 (dk_at dksX10_laySwept_2 14 rfl rfl)
theorem dX10_laySwept_63 : decode cX10_laySwept 63 = .ok (.iload_n 2, 1) := dk_28 (dk_at dksX10_laySwept_2 15 rfl rfl)
theorem dX10_laySwept_64 : decode cX10_laySwept 64 = .ok (.invokevirtual 285, 3) := dk_182 1 29 (dk_at dksX10_laySwept_2 16 rfl rfl)
theorem dX10_laySwept_67 : decode cX10_laySwept 67 = .ok (.ifCond .eq 15, 3) := dk_153 0 15 (dk_at dksX10_laySwept_2 19 rfl rfl)
theorem dX10_laySwept_70 : decode cX10_laySwept 70 = .ok (.aload_n 0, 1) := dk_42 (dk_at dksX10_laySwept_2 22 rfl rfl)
theorem dX10_laySwept_71 : decode cX10_laySwept 71 = .ok (.getfield 51, 3) := dk_180 0 51 (dk_at dksX10_laySwept_3 0 rfl rfl)
theorem dX10_laySwept_74 : decode cX10_laySwept 74 = .ok (.iload_n 1, 1) := dk_27 (dk_at dksX10_laySwept_3 3 rfl rfl)
theorem dX10_laySwept_75 : decode cX10_laySwept 75 = .ok (.dup2, 1) := dk_92 (dk_at dksX10_laySwept_3 4 rfl rfl)
theorem dX10_laySwept_76 : decode cX10_laySwept 76 = .ok (.iaload, 1) := dk_46 (dk_at dksX10_laySwept_3 5 rfl rfl)
theorem dX10_laySwept_77 : decode cX10_laySwept 77 = .ok (.iconst 1, 1) := dk_4 (dk_at dksX10_laySwept_3 6 rfl rfl)
theorem dX10_laySwept_78 : decode cX10_laySwept 78 = .ok (.iload_n 2, 1) := dk_28 (dk_at dksX10_laySwept_3 7 rfl rfl)
theorem dX10_laySwept_79 : decode cX10_laySwept 79 = .ok (.ishl, 1) := dk_120 (dk_at dksX10_laySwept_3 8 rfl rfl)
theorem dX10_laySwept_80 : decode cX10_laySwept 80 = .ok (.ior, 1) := dk_128 (dk_at dksX10_laySwept_3 9 rfl rfl)
theorem dX10_laySwept_81 : decode cX10_laySwept 81 = .ok (.iastore, 1) := dk_79 (dk_at dksX10_laySwept_3 10 rfl rfl)
theorem dX10_laySwept_82 : decode cX10_laySwept 82 = .ok (.iconst 1, 1) := dk_4 (dk_at dksX10_laySwept_3 11 rfl rfl)
theorem dX10_laySwept_83 : decode cX10_laySwept 83 = .ok (.istore 4, 2) := dk_54 4 (dk_at dksX10_laySwept_3 12 rfl rfl)
theorem dX10_laySwept_85 : decode cX10_laySwept 85 = .ok (.iload 4, 2) := dk_21 4 (dk_at dksX10_laySwept_3 14 rfl rfl)
theorem dX10_laySwept_87 : decode cX10_laySwept 87 = .ok (.iconst 3, 1) := dk_6 (dk_at dksX10_laySwept_3 16 rfl rfl)
theorem dX10_laySwept_88 : decode cX10_laySwept 88 = .ok (.if_icmp .ge 100, 3) := dk_162 0 100 (dk_at dksX10_laySwept_3 17 rfl rfl)
theorem dX10_laySwept_91 : decode cX10_laySwept 91 = .ok (.aload_n 0, 1) := dk_42 (dk_at dksX10_laySwept_3 20 rfl rfl)
theorem dX10_laySwept_92 : decode cX10_laySwept 92 = .ok (.iload_n 1, 1) := dk_27 (dk_at dksX10_laySwept_3 21 rfl rfl)
theorem dX10_laySwept_93 : decode cX10_laySwept 93 = .ok (.iload_n 2, 1) := dk_28 (dk_at dksX10_laySwept_3 22 rfl rfl)
theorem dX10_laySwept_94 : decode cX10_laySwept 94 = .ok (.iload 4, 2) := dk_21 4 (dk_at dksX10_laySwept_4 0 rfl rfl)
theorem dX10_laySwept_96 : decode cX10_laySwept 96 = .ok (.invokevirtual 282, 3) := dk_182 1 26 (dk_at dksX10_laySwept_4 2 rfl rfl)
theorem dX10_laySwept_99 : decode cX10_laySwept 99 = .ok (.ifCond .ne 6, 3) := dk_154 0 6 (dk_at dksX10_laySwept_4 5 rfl rfl)
theorem dX10_laySwept_102 : decode cX10_laySwept 102 = .ok (.goto 80, 3) := dk_167 0 80 (dk_at dksX10_laySwept_4 8 rfl rfl)
theorem dX10_laySwept_105 : decode cX10_laySwept 105 = .ok (.iconst 0, 1) := dk_3 (dk_at dksX10_laySwept_4 11 rfl rfl)
theorem dX10_laySwept_106 : decode cX10_laySwept 106 = .ok (.istore 5, 2) := dk_54 5 (dk_at dksX10_laySwept_4 12 rfl rfl)
theorem dX10_laySwept_108 : decode cX10_laySwept 108 = .ok (.iload 5, 2) := dk_21 5 (dk_at dksX10_laySwept_4 14 rfl rfl)
theorem dX10_laySwept_110 : decode cX10_laySwept 110 = .ok (.aload_n 0, 1) := dk_42 (dk_at dksX10_laySwept_4 16 rfl rfl)
theorem dX10_laySwept_111 : decode cX10_laySwept 111 = .ok (.getfield 271, 3) := dk_180 1 15 (dk_at dksX10_laySwept_4 17 rfl rfl)
theorem dX10_laySwept_114 : decode cX10_laySwept 114 = .ok (.if_icmp .ge 68, 3) := dk_162 0 68 (dk_at dksX10_laySwept_4 20 rfl rfl)
theorem dX10_laySwept_117 : decode cX10_laySwept 117 = .ok (.bipush 10, 2) := dk_16 10 (dk_at dksX10_laySwept_5 0 rfl rfl)
theorem dX10_laySwept_119 : decode cX10_laySwept 119 = .ok (.aload_n 0, 1) := dk_42 (dk_at dksX10_laySwept_5 2 rfl rfl)
theorem dX10_laySwept_120 : decode cX10_laySwept 120 = .ok (.getfield 42, 3) := dk_180 0 42 (dk_at dksX10_laySwept_5 3 rfl rfl)
theorem dX10_laySwept_123 : decode cX10_laySwept 123 = .ok (.iload 5, 2) := dk_21 5 (dk_at dksX10_laySwept_5 6 rfl rfl)
theorem dX10_laySwept_125 : decode cX10_laySwept 125 = .ok (.iaload, 1) := dk_46 (dk_at dksX10_laySwept_5 8 rfl rfl)
theorem dX10_laySwept_126 : decode cX10_laySwept 126 = .ok (.imul, 1) := dk_104 (dk_at dksX10_laySwept_5 9 rfl rfl)
theorem dX10_laySwept_127 : decode cX10_laySwept 127 = .ok (.aload_n 0, 1) := dk_42 (dk_at dksX10_laySwept_5 10 rfl rfl)
theorem dX10_laySwept_128 : decode cX10_laySwept 128 = .ok (.getfield 39, 3) := dk_180 0 39 (dk_at dksX10_laySwept_5 11 rfl rfl)
theorem dX10_laySwept_131 : decode cX10_laySwept 131 = .ok (.iload 5, 2) := dk_21 5 (dk_at dksX10_laySwept_5 14 rfl rfl)
theorem dX10_laySwept_133 : decode cX10_laySwept 133 = .ok (.iaload, 1) := dk_46 (dk_at dksX10_laySwept_5 16 rfl rfl)
theorem dX10_laySwept_134 : decode cX10_laySwept 134 = .ok (.iadd, 1) := dk_96 (dk_at dksX10_laySwept_5 17 rfl rfl)
theorem dX10_laySwept_135 : decode cX10_laySwept 135 = .ok (.istore 6, 2) := dk_54 6 (dk_at dksX10_laySwept_5 18 rfl rfl)
theorem dX10_laySwept_137 : decode cX10_laySwept 137 = .ok (.iload 6, 2) := dk_21 6 (dk_at dksX10_laySwept_5 20 rfl rfl)
theorem dX10_laySwept_139 : decode cX10_laySwept 139 = .ok (.bipush 50, 2) := dk_16 50 (dk_at dksX10_laySwept_5 22 rfl rfl)
theorem dX10_laySwept_141 : decode cX10_laySwept 141 = .ok (.if_icmp .ge 19, 3) := dk_162 0 19 (dk_at dksX10_laySwept_6 0 rfl rfl)
theorem dX10_laySwept_144 : decode cX10_laySwept 144 = .ok (.aload_n 0, 1) := dk_42 (dk_at dksX10_laySwept_6 3 rfl rfl)
theorem dX10_laySwept_145 : decode cX10_laySwept 145 = .ok (.getfield 45, 3) := dk_180 0 45 (dk_at dksX10_laySwept_6 4 rfl rfl)
theorem dX10_laySwept_148 : decode cX10_laySwept 148 = .ok (.iload_n 3, 1) := dk_29 (dk_at dksX10_laySwept_6 7 rfl rfl)
theorem dX10_laySwept_149 : decode cX10_laySwept 149 = .ok (.dup2, 1) := dk_92 (dk_at dksX10_laySwept_6 8 rfl rfl)
theorem dX10_laySwept_150 : decode cX10_laySwept 150 = .ok (.laload, 1) := dk_47 (dk_at dksX10_laySwept_6 9 rfl rfl)
theorem dX10_laySwept_151 : decode cX10_laySwept 151 = .ok (.lconst 1, 1) := dk_10 (dk_at dksX10_laySwept_6 10 rfl rfl)
theorem dX10_laySwept_152 : decode cX10_laySwept 152 = .ok (.iload 6, 2) := dk_21 6 (dk_at dksX10_laySwept_6 11 rfl rfl)
theorem dX10_laySwept_154 : decode cX10_laySwept 154 = .ok (.lshl, 1) := dk_121 (dk_at dksX10_laySwept_6 13 rfl rfl)
theorem dX10_laySwept_155 : decode cX10_laySwept 155 = .ok (.lor, 1) := dk_129 (dk_at dksX10_laySwept_6 14 rfl rfl)
theorem dX10_laySwept_156 : decode cX10_laySwept 156 = .ok (.lastore, 1) := dk_80 (dk_at dksX10_laySwept_6 15 rfl rfl)
theorem dX10_laySwept_157 : decode cX10_laySwept 157 = .ok (.goto 19, 3) := dk_167 0 19 (dk_at dksX10_laySwept_6 16 rfl rfl)
theorem dX10_laySwept_160 : decode cX10_laySwept 160 = .ok (.aload_n 0, 1) := dk_42 (dk_at dksX10_laySwept_6 19 rfl rfl)
theorem dX10_laySwept_161 : decode cX10_laySwept 161 = .ok (.getfield 48, 3) := dk_180 0 48 (dk_at dksX10_laySwept_6 20 rfl rfl)
theorem dX10_laySwept_164 : decode cX10_laySwept 164 = .ok (.iload_n 3, 1) := dk_29 (dk_at dksX10_laySwept_6 23 rfl rfl)
theorem dX10_laySwept_165 : decode cX10_laySwept 165 = .ok (.dup2, 1) := dk_92 (dk_at dksX10_laySwept_7 0 rfl rfl)
theorem dX10_laySwept_166 : decode cX10_laySwept 166 = .ok (.laload, 1) := dk_47 (dk_at dksX10_laySwept_7 1 rfl rfl)
theorem dX10_laySwept_167 : decode cX10_laySwept 167 = .ok (.lconst 1, 1) := dk_10 (dk_at dksX10_laySwept_7 2 rfl rfl)
theorem dX10_laySwept_168 : decode cX10_laySwept 168 = .ok (.iload 6, 2) := dk_21 6 (dk_at dksX10_laySwept_7 3 rfl rfl)
theorem dX10_laySwept_170 : decode cX10_laySwept 170 = .ok (.bipush 50, 2) := dk_16 50 (dk_at dksX10_laySwept_7 5 rfl rfl)
theorem dX10_laySwept_172 : decode cX10_laySwept 172 = .ok (.isub, 1) := dk_100 (dk_at dksX10_laySwept_7 7 rfl rfl)
theorem dX10_laySwept_173 : decode cX10_laySwept 173 = .ok (.lshl, 1) := dk_121 (dk_at dksX10_laySwept_7 8 rfl rfl)
theorem dX10_laySwept_174 : decode cX10_laySwept 174 = .ok (.lor, 1) := dk_129 (dk_at dksX10_laySwept_7 9 rfl rfl)
theorem dX10_laySwept_175 : decode cX10_laySwept 175 = .ok (.lastore, 1) := dk_80 (dk_at dksX10_laySwept_7 10 rfl rfl)
theorem dX10_laySwept_176 : decode cX10_laySwept 176 = .ok (.iinc 5 1, 3) := dk_132 5 1 (dk_at dksX10_laySwept_7 11 rfl rfl)
theorem dX10_laySwept_179 : decode cX10_laySwept 179 = .ok (.goto (-71), 3) := dk_167 255 185 (dk_at dksX10_laySwept_7 14 rfl rfl)
theorem dX10_laySwept_182 : decode cX10_laySwept 182 = .ok (.iinc 4 1, 3) := dk_132 4 1 (dk_at dksX10_laySwept_7 17 rfl rfl)
theorem dX10_laySwept_185 : decode cX10_laySwept 185 = .ok (.goto (-100), 3) := dk_167 255 156 (dk_at dksX10_laySwept_7 20 rfl rfl)
theorem dX10_laySwept_188 : decode cX10_laySwept 188 = .ok (.iinc 2 1, 3) := dk_132 2 1 (dk_at dksX10_laySwept_8 0 rfl rfl)
theorem dX10_laySwept_191 : decode cX10_laySwept 191 = .ok (.goto (-168), 3) := dk_167 255 88 (dk_at dksX10_laySwept_8 3 rfl rfl)
theorem dX10_laySwept_194 : decode cX10_laySwept 194 = .ok (.iinc 1 1, 3) := dk_132 1 1 (dk_at dksX10_laySwept_8 6 rfl rfl)
theorem dX10_laySwept_197 : decode cX10_laySwept 197 = .ok (.goto (-191), 3) := dk_167 255 65 (dk_at dksX10_laySwept_8 9 rfl rfl)
theorem dX10_laySwept_200 : decode cX10_laySwept 200 = .ok (.return_, 1) := dk_177 (dk_at dksX10_laySwept_8 12 rfl rfl)
theorem dn_X10_laySwept : yX10_laySwept.cls ≠ "java/lang/invoke/MethodHandle" ∧ yX10_laySwept.cls ≠ "java/lang/invoke/VarHandle" ∧ (parseMethodDescriptor yX10_laySwept.desc).map (fun d => d.parameters.length) = some 0 := by decide +kernel
noncomputable def M_X10_laySwept  : TM Unit := TM.bind (M_X10_lay) (fun v1 => TM.bind (TM.loop (S := Int32) (E := Unit) (fun s2 => TM.bind (M_X10_doors) (fun v6 => if v6 ≤ s2 then TM.pure (Sum.inr ()) else TM.bind (sA 29 10 s2 0) (fun _ => TM.bind (TM.loop (S := Int32) (E := Unit) (fun s7 => if 4 ≤ s7 then TM.pure (Sum.inr ()) else TM.lv ((4 * s2) + s7) (fun v11 => TM.bind (sB 27 40 v11 0) (fun _ => TM.bind (sB 28 40 v11 0) (fun _ => TM.bind (M_X10_of s2 5) (fun v12 => TM.bind (M_X10_has v12 s7) (fun v13 => TM.bind ((cond v13 (TM.bind (M_X10_isFit s2 s7) (fun v35 => cond v35 (TM.bind (tA 29 10 s2) (fun v36 => TM.bind (sA 29 10 s2 (v36 ||| (1 <<< (s7 &&& 31)))) (fun _ => TM.pure ()))) (TM.pure ()))) (TM.pure ()) : TM (Unit))) (fun u14 => TM.bind (TM.loop (S := Int32) (E := Unit) (fun s15 => if 3 ≤ s15 then TM.pure (Sum.inr ()) else TM.bind (M_X10_canBe s2 s7 s15) (fun v19 => TM.bind ((cond v19 (TM.bind (TM.loop (S := Int32) (E := Unit) (fun s22 => TM.bind (tI 26) (fun v26 => if v26 ≤ s22 then TM.pure (Sum.inr ()) else TM.bind (tA 25 4 s22) (fun v27 => TM.bind (tA 24 4 s22) (fun v28 => TM.lv ((10 * v27) + v28) (fun v29 => TM.bind ((if 50 ≤ v29 then TM.bind (tB 28 40 v11) (fun v32 => TM.bind (sB 28 40 v11 (v32 ||| ((1 : Int64) <<< ((v29 - 50).toInt64 &&& 63)))) (fun _ => TM.pure ())) else TM.bind (tB 27 40 v11) (fun v33 => TM.bind (sB 27 40 v11 (v33 ||| ((1 : Int64) <<< (v29.toInt64 &&& 63)))) (fun _ => TM.pure ())) : TM (Unit))) (fun u30 => TM.lv (s22 + 1) (fun v31 => TM.pure (Sum.inl v31)))))))) 0) (fun e25 => TM.pure ())) (TM.pure ()) : TM (Unit))) (fun u20 => TM.lv (s15 + 1) (fun v21 => TM.pure (Sum.inl v21))))) 1) (fun e18 => TM.lv (s7 + 1) (fun v34 => TM.pure (Sum.inl v34)))))))))) 0) (fun e10 => TM.lv (s2 + 1) (fun v37 => TM.pure (Sum.inl v37)))))) 0) (fun e5 => TM.pure ()))
set_option maxHeartbeats 4000000 in
theorem ct_X10_laySwept (G : gG) (am : Nat)  : gCtM G am yX10_laySwept cX10_laySwept 7 none 4 101 [.ref am] (M_X10_laySwept) (fun _ : Unit => none) := by
  refine gCtM.of (by decide) (Nat.le_of_ble_eq_true rfl) (fun K hn ms ms' r hG X hK hd ho => ?_)
  subst hG
  have X : gX K cX10_laySwept 7 "BitingDoorsModel" "laySwept" none 4 101 := X
  show V K 7 (mkM am hn ms) 0 [(0, .ref am)] []
  unfold M_X10_laySwept at hd
  refine v_aload_n X dX10_laySwept_0 0 0 rfl rfl ?_
  refine t_callV X hK hd (ct_X10_lay _ am) (lw_V q1868 q1870 qs37 q120 q1871) ⟨rfl, dn_X10_lay⟩ rfl ⟨by decide, by decide⟩ rfl (Nat.le_of_ble_eq_true rfl) dX10_laySwept_1 (fun v1 ms hd => ?_)
  show V K 7 (mkM am hn ms) 4 [(0, .ref am)] []
  refine v_iconst (v := 0) X dX10_laySwept_4 (by decide) ?_
  refine v_istore_n (lv2 := [(1, .int 0), (0, .ref am)]) X dX10_laySwept_5 1 rfl (by decide) rfl ?_
  obtain ⟨e5, m1, hd, hd2⟩ := TM.bind_some hd
  have KX : V K 7 (mkM am hn m1) 200 [] [] := by
    clear hd
    have hd := hd2
    exact t_vret X hK hd ho dX10_laySwept_200
  clear hd2
  refine v_loc [1, 0] rfl ?_
  refine Tloop_ind hd (fun (s2 : Int32) m => V K 7 (mkM am hn m) 6 [(0, .ref am), (1, .int s2)] []) (fun s2 ms x m2 hd ih3 ho4 => ?_)
  refine v_iload_n X dX10_laySwept_6 1 1 rfl rfl ?_
  refine v_aload_n X dX10_laySwept_7 0 0 rfl rfl ?_
  refine t_callV X hK hd (ct_X10_doors _ am) (lw_V q1986 q1988 qs57 q120 q1989) ⟨rfl, dn_X10_doors⟩ rfl ⟨by decide, by decide⟩ rfl (Nat.le_of_ble_eq_true rfl) dX10_laySwept_8 (fun v6 ms hd => ?_)
  show V K 7 (mkM am hn ms) 11 [(0, .ref am), (1, .int s2)] [.int v6, .int s2]
  refine v_icmp_ge (tgt := 200) X dX10_laySwept_11 (by decide) (fun q => ?_) (fun q => ?_)
  · have hd := Tite_t q hd
    exact v_loc [] rfl (t_at (P := fun (e5 : Unit) m => V K 7 (mkM am hn m) 200 [] []) (Tlp_out hd ho4) KX)
  · have hd := Tite_f q hd
    refine v_aload_n X dX10_laySwept_14 0 0 rfl rfl ?_
    refine t_getA (j := 13) X rfl fl_X10_51 dX10_laySwept_15 ?_
    refine v_iload_n X dX10_laySwept_18 1 1 rfl rfl ?_
    refine v_iconst (v := 0) X dX10_laySwept_19 (by decide) ?_
    refine t_iast (j := 13) X hd rfl dX10_laySwept_20 (fun ms hd => ?_)
    refine v_iconst (v := 0) X dX10_laySwept_21 (by decide) ?_
    refine v_istore_n (lv2 := [(2, .int 0), (0, .ref am), (1, .int s2)]) X dX10_laySwept_22 2 rfl (by decide) rfl ?_
    obtain ⟨e10, m1, hd, hd2⟩ := TM.bind_some hd
    have KX : V K 7 (mkM am hn m1) 194 [(0, .ref am), (1, .int s2)] [] := by
      clear hd
      have hd := hd2
      refine t_iincL (lv2 := fun v37 => [(1, .int v37), (0, .ref am)]) X hd dX10_laySwept_194 1 rfl (by decide : Int32.ofInt 1 = 1) (by decide) (fun v37 => rfl) (fun v37 hd => ?_)
      refine v_goto (tgt := 6) X dX10_laySwept_197 (by decide) ?_
      exact v_loc [1, 0] rfl (Tlp_in (P := fun (s2 : Int32) m => V K 7 (mkM am hn m) 6 [(0, .ref am), (1, .int s2)] []) hd ih3)
    clear hd2
    refine v_loc [1, 2, 0] rfl ?_
    refine Tloop_ind hd (fun (s7 : Int32) m => V K 7 (mkM am hn m) 23 [(0, .ref am), (1, .int s2), (2, .int s7)] []) (fun s7 ms x m2 hd ih8 ho9 => ?_)
    refine v_iload_n X dX10_laySwept_23 2 2 rfl rfl ?_
    refine v_iconst (v := 4) X dX10_laySwept_24 (by decide) ?_
    refine v_icmp_ge (tgt := 194) X dX10_laySwept_25 (by decide) (fun q => ?_) (fun q => ?_)
    · have hd := Tite_t q hd
      exact v_loc [0, 1] rfl (t_at (P := fun (e10 : Unit) m => V K 7 (mkM am hn m) 194 [(0, .ref am), (1, .int s2)] []) (Tlp_out hd ho9) KX)
    · have hd := Tite_f q hd
      refine v_iconst (v := 4) X dX10_laySwept_28 (by decide) ?_
      refine v_iload_n X dX10_laySwept_29 1 1 rfl rfl ?_
      refine v_imul X dX10_laySwept_30 ?_
      refine v_iload_n X dX10_laySwept_31 2 2 rfl rfl ?_
      refine v_iadd X dX10_laySwept_32 ?_
      refine t_lvI hd (fun v11 hd => ?_)
      refine v_istore_n (lv2 := [(3, .int v11), (0, .ref am), (1, .int s2), (2, .int s7)]) X dX10_laySwept_33 3 rfl (by decide) rfl ?_
      refine v_aload_n X dX10_laySwept_34 1 0 rfl rfl ?_
      refine t_getA (j := 11) X rfl fl_X10_45 dX10_laySwept_35 ?_
      refine v_iload_n X dX10_laySwept_38 0 3 rfl rfl ?_
      refine v_lconst (v := 0) X dX10_laySwept_39 (by decide) ?_
      refine t_last (j := 11) X hd rfl dX10_laySwept_40 (fun ms hd => ?_)
      refine v_aload_n X dX10_laySwept_41 1 0 rfl rfl ?_
      refine t_getA (j := 12) X rfl fl_X10_48 dX10_laySwept_42 ?_
      refine v_iload_n X dX10_laySwept_45 0 3 rfl rfl ?_
      refine v_lconst (v := 0) X dX10_laySwept_46 (by decide) ?_
      refine t_last (j := 12) X hd rfl dX10_laySwept_47 (fun ms hd => ?_)
      refine v_aload_n X dX10_laySwept_48 1 0 rfl rfl ?_
      refine v_iload_n X dX10_laySwept_49 2 1 rfl rfl ?_
      refine v_iconst (v := 5) X dX10_laySwept_50 (by decide) ?_
      refine t_callV X hK hd (ct_X10_of _ am s2 5) (lw_V q1994 q1996 qs59 q120 q1997) ⟨rfl, dn_X10_of⟩ rfl ⟨by decide, by decide⟩ rfl (Nat.le_of_ble_eq_true rfl) dX10_laySwept_51 (fun v12 ms hd => ?_)
      show V K 7 (mkM am hn ms) 54 [(3, .int v11), (0, .ref am), (1, .int s2), (2, .int s7)] [.int v12]
      refine v_iload_n X dX10_laySwept_54 3 2 rfl rfl ?_
      refine t_callS X hK hd (ct_X10_has _ am v12 s7) (lw_S q1947 q1948 q120 q1949) dn_X10_has rfl ⟨by decide, by decide⟩ rfl (Nat.le_of_ble_eq_true rfl) dX10_laySwept_55 (fun v13 ms hd => ?_)
      show V K 7 (mkM am hn ms) 58 [(3, .int v11), (0, .ref am), (1, .int s2), (2, .int s7)] [.int (b2i v13)]
      obtain ⟨u14, m1, hd, hd2⟩ := TM.bind_some hd
      have KJ : V K 7 (mkM am hn m1) 82 [(0, .ref am), (1, .int s2), (2, .int s7), (3, .int v11)] [] := by
        clear hd
        have hd := hd2
        refine v_iconst (v := 1) X dX10_laySwept_82 (by decide) ?_
        refine v_istore (lv2 := [(4, .int 1), (0, .ref am), (1, .int s2), (2, .int s7), (3, .int v11)]) X dX10_laySwept_83 (by decide) rfl ?_
        obtain ⟨e18, m1, hd, hd2⟩ := TM.bind_some hd
        have KX : V K 7 (mkM am hn m1) 188 [(0, .ref am), (1, .int s2), (2, .int s7)] [] := by
          clear hd
          have hd := hd2
          refine t_iincL (lv2 := fun v34 => [(2, .int v34), (0, .ref am), (1, .int s2)]) X hd dX10_laySwept_188 2 rfl (by decide : Int32.ofInt 1 = 1) (by decide) (fun v34 => rfl) (fun v34 hd => ?_)
          refine v_goto (tgt := 23) X dX10_laySwept_191 (by decide) ?_
          exact v_loc [1, 2, 0] rfl (Tlp_in (P := fun (s7 : Int32) m => V K 7 (mkM am hn m) 23 [(0, .ref am), (1, .int s2), (2, .int s7)] []) hd ih8)
        clear hd2
        refine v_loc [1, 2, 3, 4, 0] rfl ?_
        refine Tloop_ind hd (fun (s15 : Int32) m => V K 7 (mkM am hn m) 85 [(0, .ref am), (1, .int s2), (2, .int s7), (3, .int v11), (4, .int s15)] []) (fun s15 ms x m2 hd ih16 ho17 => ?_)
        refine v_iload X dX10_laySwept_85 4 rfl ?_
        refine v_iconst (v := 3) X dX10_laySwept_87 (by decide) ?_
        refine v_icmp_ge (tgt := 188) X dX10_laySwept_88 (by decide) (fun q => ?_) (fun q => ?_)
        · have hd := Tite_t q hd
          exact v_loc [0, 1, 2] rfl (t_at (P := fun (e18 : Unit) m => V K 7 (mkM am hn m) 188 [(0, .ref am), (1, .int s2), (2, .int s7)] []) (Tlp_out hd ho17) KX)
        · have hd := Tite_f q hd
          refine v_aload_n X dX10_laySwept_91 0 0 rfl rfl ?_
          refine v_iload_n X dX10_laySwept_92 1 1 rfl rfl ?_
          refine v_iload_n X dX10_laySwept_93 2 2 rfl rfl ?_
          refine v_iload X dX10_laySwept_94 4 rfl ?_
          refine t_callV X hK hd (ct_X10_canBe _ am s2 s7 s15) (lw_V q2014 q2016 qs62 q120 q2017) ⟨rfl, dn_X10_canBe⟩ rfl ⟨by decide, by decide⟩ rfl (Nat.le_of_ble_eq_true rfl) dX10_laySwept_96 (fun v19 ms hd => ?_)
          show V K 7 (mkM am hn ms) 99 [(0, .ref am), (1, .int s2), (2, .int s7), (3, .int v11), (4, .int s15)] [.int (b2i v19)]
          obtain ⟨u20, m1, hd, hd2⟩ := TM.bind_some hd
          have KJ : V K 7 (mkM am hn m1) 182 [(0, .ref am), (1, .int s2), (2, .int s7), (3, .int v11), (4, .int s15)] [] := by
            clear hd
            have hd := hd2
            refine t_iincL (lv2 := fun v21 => [(4, .int v21), (0, .ref am), (1, .int s2), (2, .int s7), (3, .int v11)]) X hd dX10_laySwept_182 4 rfl (by decide : Int32.ofInt 1 = 1) (by decide) (fun v21 => rfl) (fun v21 hd => ?_)
            refine v_goto (tgt := 85) X dX10_laySwept_185 (by decide) ?_
            exact v_loc [1, 2, 3, 4, 0] rfl (Tlp_in (P := fun (s15 : Int32) m => V K 7 (mkM am hn m) 85 [(0, .ref am), (1, .int s2), (2, .int s7), (3, .int v11), (4, .int s15)] []) hd ih16)
          clear hd2
          refine v_ifZ_ne (tgt := 105) X dX10_laySwept_99 (by decide) (fun q => ?_) (fun q => ?_)
          · have hd := Tcnd_t q hd
            refine v_iconst (v := 0) X dX10_laySwept_105 (by decide) ?_
            refine v_istore (lv2 := [(5, .int 0), (0, .ref am), (1, .int s2), (2, .int s7), (3, .int v11), (4, .int s15)]) X dX10_laySwept_106 (by decide) rfl ?_
            obtain ⟨e25, m1, hd, hd2⟩ := TM.bind_some hd
            have KX : V K 7 (mkM am hn m1) 182 [(0, .ref am), (1, .int s2), (2, .int s7), (3, .int v11), (4, .int s15)] [] := by
              clear hd
              have hd := hd2
              exact v_loc [0, 1, 2, 3, 4] rfl (t_at (P := fun (u20 : Unit) m => V K 7 (mkM am hn m) 182 [(0, .ref am), (1, .int s2), (2, .int s7), (3, .int v11), (4, .int s15)] []) hd KJ)
            clear hd2
            refine v_loc [1, 2, 3, 4, 5, 0] rfl ?_
            refine Tloop_ind hd (fun (s22 : Int32) m => V K 7 (mkM am hn m) 108 [(0, .ref am), (1, .int s2), (2, .int s7), (3, .int v11), (4, .int s15), (5, .int s22)] []) (fun s22 ms x m2 hd ih23 ho24 => ?_)
            refine v_iload X dX10_laySwept_108 5 rfl ?_
            refine v_aload_n X dX10_laySwept_110 0 0 rfl rfl ?_
            refine t_getI X hd rfl fl_X10_271 dX10_laySwept_111 (fun v26 hd => ?_)
            refine v_icmp_ge (tgt := 182) X dX10_laySwept_114 (by decide) (fun q => ?_) (fun q => ?_)
            · have hd := Tite_t q hd
              exact v_loc [0, 1, 2, 3, 4] rfl (t_at (P := fun (e25 : Unit) m => V K 7 (mkM am hn m) 182 [(0, .ref am), (1, .int s2), (2, .int s7), (3, .int v11), (4, .int s15)] []) (Tlp_out hd ho24) KX)
            · have hd := Tite_f q hd
              refine v_bipush (v := 10) X dX10_laySwept_117 (by decide) ?_
              refine v_aload_n X dX10_laySwept_119 0 0 rfl rfl ?_
              refine t_getA (j := 10) X rfl fl_X10_42 dX10_laySwept_120 ?_
              refine v_iload X dX10_laySwept_123 5 rfl ?_
              refine t_iald (j := 10) X hd rfl dX10_laySwept_125 (fun v27 hd => ?_)
              refine v_imul X dX10_laySwept_126 ?_
              refine v_aload_n X dX10_laySwept_127 0 0 rfl rfl ?_
              refine t_getA (j := 9) X rfl fl_X10_39 dX10_laySwept_128 ?_
              refine v_iload X dX10_laySwept_131 5 rfl ?_
              refine t_iald (j := 9) X hd rfl dX10_laySwept_133 (fun v28 hd => ?_)
              refine v_iadd X dX10_laySwept_134 ?_
              refine t_lvI hd (fun v29 hd => ?_)
              refine v_istore (lv2 := [(6, .int v29), (0, .ref am), (1, .int s2), (2, .int s7), (3, .int v11), (4, .int s15), (5, .int s22)]) X dX10_laySwept_135 (by decide) rfl ?_
              refine v_iload X dX10_laySwept_137 0 rfl ?_
              refine v_bipush (v := 50) X dX10_laySwept_139 (by decide) ?_
              obtain ⟨u30, m1, hd, hd2⟩ := TM.bind_some hd
              have KJ : V K 7 (mkM am hn m1) 176 [(0, .ref am), (1, .int s2), (2, .int s7), (3, .int v11), (4, .int s15), (5, .int s22)] [] := by
                clear hd
                have hd := hd2
                refine t_iincL (lv2 := fun v31 => [(5, .int v31), (0, .ref am), (1, .int s2), (2, .int s7), (3, .int v11), (4, .int s15)]) X hd dX10_laySwept_176 5 rfl (by decide : Int32.ofInt 1 = 1) (by decide) (fun v31 => rfl) (fun v31 hd => ?_)
                refine v_goto (tgt := 108) X dX10_laySwept_179 (by decide) ?_
                exact v_loc [1, 2, 3, 4, 5, 0] rfl (Tlp_in (P := fun (s22 : Int32) m => V K 7 (mkM am hn m) 108 [(0, .ref am), (1, .int s2), (2, .int s7), (3, .int v11), (4, .int s15), (5, .int s22)] []) hd ih23)
              clear hd2
              refine v_icmp_ge (tgt := 160) X dX10_laySwept_141 (by decide) (fun q => ?_) (fun q => ?_)
              · have hd := Tite_t q hd
                refine v_aload_n X dX10_laySwept_160 1 0 rfl rfl ?_
                refine t_getA (j := 12) X rfl fl_X10_48 dX10_laySwept_161 ?_
                refine v_iload_n X dX10_laySwept_164 4 3 rfl rfl ?_
                refine v_dup2 X dX10_laySwept_165 rfl rfl ?_
                refine t_lald (j := 12) X hd rfl dX10_laySwept_166 (fun v32 hd => ?_)
                refine v_lconst (v := 1) X dX10_laySwept_167 (by decide) ?_
                refine v_iload X dX10_laySwept_168 0 rfl ?_
                refine v_bipush (v := 50) X dX10_laySwept_170 (by decide) ?_
                refine v_isub X dX10_laySwept_172 ?_
                refine v_lshl X dX10_laySwept_173 ?_
                refine v_lor X dX10_laySwept_174 ?_
                refine t_last (j := 12) X hd rfl dX10_laySwept_175 (fun ms hd => ?_)
                exact v_loc [1, 2, 3, 4, 5, 6] rfl (t_at (P := fun (u30 : Unit) m => V K 7 (mkM am hn m) 176 [(0, .ref am), (1, .int s2), (2, .int s7), (3, .int v11), (4, .int s15), (5, .int s22)] []) hd KJ)
              · have hd := Tite_f q hd
                refine v_aload_n X dX10_laySwept_144 1 0 rfl rfl ?_
                refine t_getA (j := 11) X rfl fl_X10_45 dX10_laySwept_145 ?_
                refine v_iload_n X dX10_laySwept_148 4 3 rfl rfl ?_
                refine v_dup2 X dX10_laySwept_149 rfl rfl ?_
                refine t_lald (j := 11) X hd rfl dX10_laySwept_150 (fun v33 hd => ?_)
                refine v_lconst (v := 1) X dX10_laySwept_151 (by decide) ?_
                refine v_iload X dX10_laySwept_152 0 rfl ?_
                refine v_lshl X dX10_laySwept_154 ?_
                refine v_lor X dX10_laySwept_155 ?_
                refine t_last (j := 11) X hd rfl dX10_laySwept_156 (fun ms hd => ?_)
                refine v_goto (tgt := 176) X dX10_laySwept_157 (by decide) ?_
                exact v_loc [1, 2, 3, 4, 5, 6] rfl (t_at (P := fun (u30 : Unit) m => V K 7 (mkM am hn m) 176 [(0, .ref am), (1, .int s2), (2, .int s7), (3, .int v11), (4, .int s15), (5, .int s22)] []) hd KJ)
          · have hd := Tcnd_f q hd
            refine v_goto (tgt := 182) X dX10_laySwept_102 (by decide) ?_
            exact v_loc [0, 1, 2, 3, 4] rfl (t_at (P := fun (u20 : Unit) m => V K 7 (mkM am hn m) 182 [(0, .ref am), (1, .int s2), (2, .int s7), (3, .int v11), (4, .int s15)] []) hd KJ)
      clear hd2
      refine v_ifZ_eq (tgt := 82) X dX10_laySwept_58 (by decide) (fun q => ?_) (fun q => ?_)
      · have hd := Tcnd_f q hd
        exact v_loc [1, 2, 3, 0] rfl (t_at (P := fun (u14 : Unit) m => V K 7 (mkM am hn m) 82 [(0, .ref am), (1, .int s2), (2, .int s7), (3, .int v11)] []) hd KJ)
      · have hd := Tcnd_t q hd
        refine v_aload_n X dX10_laySwept_61 1 0 rfl rfl ?_
        refine v_iload_n X dX10_laySwept_62 2 1 rfl rfl ?_
        refine v_iload_n X dX10_laySwept_63 3 2 rfl rfl ?_
        refine t_callV X hK hd (ct_X10_isFit _ am s2 s7) (lw_V q2022 q2024 qs63 q120 q2025) ⟨rfl, dn_X10_isFit⟩ rfl ⟨by decide, by decide⟩ rfl (Nat.le_of_ble_eq_true rfl) dX10_laySwept_64 (fun v35 ms hd => ?_)
        show V K 7 (mkM am hn ms) 67 [(3, .int v11), (0, .ref am), (1, .int s2), (2, .int s7)] [.int (b2i v35)]
        refine v_ifZ_eq (tgt := 82) X dX10_laySwept_67 (by decide) (fun q => ?_) (fun q => ?_)
        · have hd := Tcnd_f q hd
          exact v_loc [1, 2, 3, 0] rfl (t_at (P := fun (u14 : Unit) m => V K 7 (mkM am hn m) 82 [(0, .ref am), (1, .int s2), (2, .int s7), (3, .int v11)] []) hd KJ)
        · have hd := Tcnd_t q hd
          refine v_aload_n X dX10_laySwept_70 1 0 rfl rfl ?_
          refine t_getA (j := 13) X rfl fl_X10_51 dX10_laySwept_71 ?_
          refine v_iload_n X dX10_laySwept_74 2 1 rfl rfl ?_
          refine v_dup2 X dX10_laySwept_75 rfl rfl ?_
          refine t_iald (j := 13) X hd rfl dX10_laySwept_76 (fun v36 hd => ?_)
          refine v_iconst (v := 1) X dX10_laySwept_77 (by decide) ?_
          refine v_iload_n X dX10_laySwept_78 3 2 rfl rfl ?_
          refine v_ishl X dX10_laySwept_79 ?_
          refine v_ior X dX10_laySwept_80 ?_
          refine t_iast (j := 13) X hd rfl dX10_laySwept_81 (fun ms hd => ?_)
          exact v_loc [1, 2, 3, 0] rfl (t_at (P := fun (u14 : Unit) m => V K 7 (mkM am hn m) 82 [(0, .ref am), (1, .int s2), (2, .int s7), (3, .int v11)] []) hd KJ)
def dkwX10_hangAll_0 : List UInt8 := [42, 182, 1, 36, 42, 2, 181, 1, 50, 42, 3, 3, 27, 182, 1, 60, 42, 180, 1, 50, 172]
abbrev dktX10_hangAll_0 : List UInt8 := dkwX10_hangAll_0 ++ []
theorem dksX10_hangAll_0 : cX10_hangAll.data.toList.drop 0 = dktX10_hangAll_0 := by decide +kernel
theorem dX10_hangAll_0 : decode cX10_hangAll 0 = .ok (.aload_n 0, 1) := dk_42 (dk_at dksX10_hangAll_0 0 rfl rfl)
theorem dX10_hangAll_1 : decode cX10_hangAll 1 = .ok (.invokevirtual 292, 3) := dk_182 1 36 (dk_at dksX10_hangAll_0 1 rfl rfl)
theorem dX10_hangAll_4 : decode cX10_hangAll 4 = .ok (.aload_n 0, 1) := dk_42 (dk_at dksX10_hangAll_0 4 rfl rfl)
theorem dX10_hangAll_5 : decode cX10_hangAll 5 = .ok (.iconst (-1), 1) := dk_2 (dk_at dksX10_hangAll_0 5 rfl rfl)
theorem dX10_hangAll_6 : decode cX10_hangAll 6 = .ok (.putfield 306, 3) := dk_181 1 50 (dk_at dksX10_hangAll_0 6 rfl rfl)
theorem dX10_hangAll_9 : decode cX10_hangAll 9 = .ok (.aload_n 0, 1) := dk_42 (dk_at dksX10_hangAll_0 9 rfl rfl)
theorem dX10_hangAll_10 : decode cX10_hangAll 10 = .ok (.iconst 0, 1) := dk_3 (dk_at dksX10_hangAll_0 10 rfl rfl)
theorem dX10_hangAll_11 : decode cX10_hangAll 11 = .ok (.iconst 0, 1) := dk_3 (dk_at dksX10_hangAll_0 11 rfl rfl)
theorem dX10_hangAll_12 : decode cX10_hangAll 12 = .ok (.iload_n 1, 1) := dk_27 (dk_at dksX10_hangAll_0 12 rfl rfl)
theorem dX10_hangAll_13 : decode cX10_hangAll 13 = .ok (.invokevirtual 316, 3) := dk_182 1 60 (dk_at dksX10_hangAll_0 13 rfl rfl)
theorem dX10_hangAll_16 : decode cX10_hangAll 16 = .ok (.aload_n 0, 1) := dk_42 (dk_at dksX10_hangAll_0 16 rfl rfl)
theorem dX10_hangAll_17 : decode cX10_hangAll 17 = .ok (.getfield 306, 3) := dk_180 1 50 (dk_at dksX10_hangAll_0 17 rfl rfl)
theorem dX10_hangAll_20 : decode cX10_hangAll 20 = .ok (.ireturn, 1) := dk_172 (dk_at dksX10_hangAll_0 20 rfl rfl)
theorem dn_X10_hangAll : yX10_hangAll.cls ≠ "java/lang/invoke/MethodHandle" ∧ yX10_hangAll.cls ≠ "java/lang/invoke/VarHandle" ∧ (parseMethodDescriptor yX10_hangAll.desc).map (fun d => d.parameters.length) = some 1 := by decide +kernel
noncomputable def M_X10_hangAll (p1 : Bool) : TM Int32 := TM.bind (M_X10_laySwept) (fun v1 => TM.bind (sI 32 (-1)) (fun _ => TM.bind (M_X10_hang 12 0 0 p1) (fun v2 => TM.bind (tI 32) (fun v3 => TM.pure v3))))
set_option maxHeartbeats 4000000 in
theorem ct_X10_hangAll (G : gG) (am : Nat) (p1 : Bool) : gCtM G am yX10_hangAll cX10_hangAll 2 (some .int) 15 360 [.ref am, .int (b2i p1)] (M_X10_hangAll p1) (fun x : Int32 => some (.int x)) := by
  refine gCtM.of (by decide) (Nat.le_of_ble_eq_true rfl) (fun K hn ms ms' r hG X hK hd ho => ?_)
  subst hG
  have X : gX K cX10_hangAll 2 "BitingDoorsModel" "hangAll" (some .int) 15 360 := X
  show V K 2 (mkM am hn ms) 0 [(0, .ref am), (1, .int (b2i p1))] []
  unfold M_X10_hangAll at hd
  refine v_aload_n X dX10_hangAll_0 0 0 rfl rfl ?_
  refine t_callV X hK hd (ct_X10_laySwept _ am) (lw_V q2030 q2032 qs64 q120 q2033) ⟨rfl, dn_X10_laySwept⟩ rfl ⟨by decide, by decide⟩ rfl (Nat.le_of_ble_eq_true rfl) dX10_hangAll_1 (fun v1 ms hd => ?_)
  show V K 2 (mkM am hn ms) 4 [(0, .ref am), (1, .int (b2i p1))] []
  refine v_aload_n X dX10_hangAll_4 0 0 rfl rfl ?_
  refine v_iconst (v := (-1)) X dX10_hangAll_5 (by decide) ?_
  refine t_putI X hd rfl fp_X10_306 dX10_hangAll_6 (fun ms hd => ?_)
  refine v_aload_n X dX10_hangAll_9 0 0 rfl rfl ?_
  refine v_iconst (v := 0) X dX10_hangAll_10 (by decide) ?_
  refine v_iconst (v := 0) X dX10_hangAll_11 (by decide) ?_
  refine v_iload_n X dX10_hangAll_12 1 1 rfl rfl ?_
  refine t_callV X hK hd (ct_X10_hang _ am 12 0 0 p1) (lw_V q2061 q2063 qs69 q120 q2064) ⟨rfl, dn_X10_hang⟩ rfl ⟨by decide, by decide⟩ rfl (Nat.le_of_ble_eq_true rfl) dX10_hangAll_13 (fun v2 ms hd => ?_)
  show V K 2 (mkM am hn ms) 16 [(0, .ref am), (1, .int (b2i p1))] []
  refine v_aload_n X dX10_hangAll_16 0 0 rfl rfl ?_
  refine t_getI X hd rfl fl_X10_306 dX10_hangAll_17 (fun v3 hd => ?_)
  exact t_iret X hK hd ho dX10_hangAll_20
def dkwX10_isDoor_0 : List UInt8 := [27, 155, 0, 15, 27, 42, 182, 0, 211, 162, 0, 7, 4, 167, 0, 4, 3, 172]
abbrev dktX10_isDoor_0 : List UInt8 := dkwX10_isDoor_0 ++ []
theorem dksX10_isDoor_0 : cX10_isDoor.data.toList.drop 0 = dktX10_isDoor_0 := by decide +kernel
theorem dX10_isDoor_0 : decode cX10_isDoor 0 = .ok (.iload_n 1, 1) := dk_27 (dk_at dksX10_isDoor_0 0 rfl rfl)
theorem dX10_isDoor_1 : decode cX10_isDoor 1 = .ok (.ifCond .lt 15, 3) := dk_155 0 15 (dk_at dksX10_isDoor_0 1 rfl rfl)
theorem dX10_isDoor_4 : decode cX10_isDoor 4 = .ok (.iload_n 1, 1) := dk_27 (dk_at dksX10_isDoor_0 4 rfl rfl)
theorem dX10_isDoor_5 : decode cX10_isDoor 5 = .ok (.aload_n 0, 1) := dk_42 (dk_at dksX10_isDoor_0 5 rfl rfl)
theorem dX10_isDoor_6 : decode cX10_isDoor 6 = .ok (.invokevirtual 211, 3) := dk_182 0 211 (dk_at dksX10_isDoor_0 6 rfl rfl)
theorem dX10_isDoor_9 : decode cX10_isDoor 9 = .ok (.if_icmp .ge 7, 3) := dk_162 0 7 (dk_at dksX10_isDoor_0 9 rfl rfl)
theorem dX10_isDoor_12 : decode cX10_isDoor 12 = .ok (.iconst 1, 1) := dk_4 (dk_at dksX10_isDoor_0 12 rfl rfl)
theorem dX10_isDoor_13 : decode cX10_isDoor 13 = .ok (.goto 4, 3) := dk_167 0 4 (dk_at dksX10_isDoor_0 13 rfl rfl)
theorem dX10_isDoor_16 : decode cX10_isDoor 16 = .ok (.iconst 0, 1) := dk_3 (dk_at dksX10_isDoor_0 16 rfl rfl)
theorem dX10_isDoor_17 : decode cX10_isDoor 17 = .ok (.ireturn, 1) := dk_172 (dk_at dksX10_isDoor_0 17 rfl rfl)
theorem dn_X10_isDoor : yX10_isDoor.cls ≠ "java/lang/invoke/MethodHandle" ∧ yX10_isDoor.cls ≠ "java/lang/invoke/VarHandle" ∧ (parseMethodDescriptor yX10_isDoor.desc).map (fun d => d.parameters.length) = some 1 := by decide +kernel
noncomputable def M_X10_isDoor (p1 : Int32) : TM Bool := TM.bind ((if p1 < 0 then TM.pure false else TM.bind (M_X10_doors) (fun v2 => if v2 ≤ p1 then TM.pure false else TM.pure true) : TM (Bool))) (fun u1 => TM.pure u1)
set_option maxHeartbeats 4000000 in
theorem ct_X10_isDoor (G : gG) (am : Nat) (p1 : Int32) : gCtM G am yX10_isDoor cX10_isDoor 2 (some .boolean) 1 20 [.ref am, .int p1] (M_X10_isDoor p1) (fun x : Bool => some (.int (b2i x))) := by
  refine gCtM.of (by decide) (Nat.le_of_ble_eq_true rfl) (fun K hn ms ms' r hG X hK hd ho => ?_)
  subst hG
  have X : gX K cX10_isDoor 2 "BitingDoorsModel" "isDoor" (some .boolean) 1 20 := X
  show V K 2 (mkM am hn ms) 0 [(0, .ref am), (1, .int p1)] []
  unfold M_X10_isDoor at hd
  refine v_iload_n X dX10_isDoor_0 1 1 rfl rfl ?_
  obtain ⟨u1, m1, hd, hd2⟩ := TM.bind_some hd
  have KJ : V K 2 (mkM am hn m1) 17 [] [.int (b2i u1)] := by
    clear hd
    have hd := hd2
    exact t_zret X hK hd rfl ho dX10_isDoor_17
  clear hd2
  refine v_if_lt (tgt := 16) X dX10_isDoor_1 (by decide) (fun q => ?_) (fun q => ?_)
  · have hd := Tite_t q hd
    refine v_iconst (v := 0) X dX10_isDoor_16 (by decide) ?_
    exact v_loc [] rfl (t_at (P := fun (u1 : Bool) m => V K 2 (mkM am hn m) 17 [] [.int (b2i u1)]) hd KJ)
  · have hd := Tite_f q hd
    refine v_iload_n X dX10_isDoor_4 1 1 rfl rfl ?_
    refine v_aload_n X dX10_isDoor_5 0 0 rfl rfl ?_
    refine t_callV X hK hd (ct_X10_doors _ am) (lw_V q1986 q1988 qs57 q120 q1989) ⟨rfl, dn_X10_doors⟩ rfl ⟨by decide, by decide⟩ rfl (Nat.le_of_ble_eq_true rfl) dX10_isDoor_6 (fun v2 ms hd => ?_)
    show V K 2 (mkM am hn ms) 9 [(0, .ref am), (1, .int p1)] [.int v2, .int p1]
    refine v_icmp_ge (tgt := 16) X dX10_isDoor_9 (by decide) (fun q => ?_) (fun q => ?_)
    · have hd := Tite_t q hd
      refine v_iconst (v := 0) X dX10_isDoor_16 (by decide) ?_
      exact v_loc [] rfl (t_at (P := fun (u1 : Bool) m => V K 2 (mkM am hn m) 17 [] [.int (b2i u1)]) hd KJ)
    · have hd := Tite_f q hd
      refine v_iconst (v := 1) X dX10_isDoor_12 (by decide) ?_
      refine v_goto (tgt := 17) X dX10_isDoor_13 (by decide) ?_
      exact v_loc [] rfl (t_at (P := fun (u1 : Bool) m => V K 2 (mkM am hn m) 17 [] [.int (b2i u1)]) hd KJ)
def dkwX10_fewestBy_1 : List UInt8 := [167, 0, 9, 42, 180, 0, 57, 27, 46, 172]
abbrev dktX10_fewestBy_1 : List UInt8 := dkwX10_fewestBy_1 ++ []
def dkwX10_fewestBy_0 : List UInt8 := [42, 3, 181, 0, 108, 42, 3, 182, 1, 64, 2, 159, 0, 11, 42, 27, 182, 1, 5, 154, 0, 7, 2]
abbrev dktX10_fewestBy_0 : List UInt8 := dkwX10_fewestBy_0 ++ dktX10_fewestBy_1
theorem dksX10_fewestBy_0 : cX10_fewestBy.data.toList.drop 0 = dktX10_fewestBy_0 := by decide +kernel
theorem dksX10_fewestBy_1 : cX10_fewestBy.data.toList.drop 23 = dktX10_fewestBy_1 := dk_seg dksX10_fewestBy_0 23 rfl rfl
theorem dX10_fewestBy_0 : decode cX10_fewestBy 0 = .ok (.aload_n 0, 1) := dk_42 (dk_at dksX10_fewestBy_0 0 rfl rfl)
theorem dX10_fewestBy_1 : decode cX10_fewestBy 1 = .ok (.iconst 0, 1) := dk_3 (dk_at dksX10_fewestBy_0 1 rfl rfl)
theorem dX10_fewestBy_2 : decode cX10_fewestBy 2 = .ok (.putfield 108, 3) := dk_181 0 108 (dk_at dksX10_fewestBy_0 2 rfl rfl)
theorem dX10_fewestBy_5 : decode cX10_fewestBy 5 = .ok (.aload_n 0, 1) := dk_42 (dk_at dksX10_fewestBy_0 5 rfl rfl)
theorem dX10_fewestBy_6 : decode cX10_fewestBy 6 = .ok (.iconst 0, 1) := dk_3 (dk_at dksX10_fewestBy_0 6 rfl rfl)
theorem dX10_fewestBy_7 : decode cX10_fewestBy 7 = .ok (.invokevirtual 320, 3) := dk_182 1 64 (dk_at dksX10_fewestBy_0 7 rfl rfl)
theorem dX10_fewestBy_10 : decode cX10_fewestBy 10 = .ok (.iconst (-1), 1) := dk_2 (dk_at dksX10_fewestBy_0 10 rfl rfl)
theorem dX10_fewestBy_11 : decode cX10_fewestBy 11 = .ok (.if_icmp .eq 11, 3) := dk_159 0 11 (dk_at dksX10_fewestBy_0 11 rfl rfl)
theorem dX10_fewestBy_14 : decode cX10_fewestBy 14 = .ok (.aload_n 0, 1) := dk_42 (dk_at dksX10_fewestBy_0 14 rfl rfl)
theorem dX10_fewestBy_15 : decode cX10_fewestBy 15 = .ok (.iload_n 1, 1) := dk_27 (dk_at dksX10_fewestBy_0 15 rfl rfl)
theorem dX10_fewestBy_16 : decode cX10_fewestBy 16 = .ok (.invokevirtual 261, 3) := dk_182 1 5 (dk_at dksX10_fewestBy_0 16 rfl rfl)
theorem dX10_fewestBy_19 : decode cX10_fewestBy 19 = .ok (.ifCond .ne 7, 3) := dk_154 0 7 (dk_at dksX10_fewestBy_0 19 rfl rfl)
theorem dX10_fewestBy_22 : decode cX10_fewestBy 22 = .ok (.iconst (-1), 1) := dk_2 (dk_at dksX10_fewestBy_0 22 rfl rfl)
theorem dX10_fewestBy_23 : decode cX10_fewestBy 23 = .ok (.goto 9, 3) := dk_167 0 9 (dk_at dksX10_fewestBy_1 0 rfl rfl)
theorem dX10_fewestBy_26 : decode cX10_fewestBy 26 = .ok (.aload_n 0, 1) := dk_42 (dk_at dksX10_fewestBy_1 3 rfl rfl)
theorem dX10_fewestBy_27 : decode cX10_fewestBy 27 = .ok (.getfield 57, 3) := dk_180 0 57 (dk_at dksX10_fewestBy_1 4 rfl rfl)
theorem dX10_fewestBy_30 : decode cX10_fewestBy 30 = .ok (.iload_n 1, 1) := dk_27 (dk_at dksX10_fewestBy_1 7 rfl rfl)
theorem dX10_fewestBy_31 : decode cX10_fewestBy 31 = .ok (.iaload, 1) := dk_46 (dk_at dksX10_fewestBy_1 8 rfl rfl)
theorem dX10_fewestBy_32 : decode cX10_fewestBy 32 = .ok (.ireturn, 1) := dk_172 (dk_at dksX10_fewestBy_1 9 rfl rfl)
theorem dn_X10_fewestBy : yX10_fewestBy.cls ≠ "java/lang/invoke/MethodHandle" ∧ yX10_fewestBy.cls ≠ "java/lang/invoke/VarHandle" ∧ (parseMethodDescriptor yX10_fewestBy.desc).map (fun d => d.parameters.length) = some 1 := by decide +kernel
noncomputable def M_X10_fewestBy (p1 : Int32) : TM Int32 := TM.bind (sI 0 0) (fun _ => TM.bind (M_X10_hangAll false) (fun v1 => TM.bind ((if v1 = (-1) then TM.pure (-1) else TM.bind (M_X10_isDoor p1) (fun v3 => cond v3 (TM.bind (tA 31 10 p1) (fun v4 => TM.pure v4)) (TM.pure (-1))) : TM (Int32))) (fun u2 => TM.pure u2)))
set_option maxHeartbeats 4000000 in
theorem ct_X10_fewestBy (G : gG) (am : Nat) (p1 : Int32) : gCtM G am yX10_fewestBy cX10_fewestBy 2 (some .int) 16 381 [.ref am, .int p1] (M_X10_fewestBy p1) (fun x : Int32 => some (.int x)) := by
  refine gCtM.of (by decide) (Nat.le_of_ble_eq_true rfl) (fun K hn ms ms' r hG X hK hd ho => ?_)
  subst hG
  have X : gX K cX10_fewestBy 2 "BitingDoorsModel" "fewestBy" (some .int) 16 381 := X
  show V K 2 (mkM am hn ms) 0 [(0, .ref am), (1, .int p1)] []
  unfold M_X10_fewestBy at hd
  refine v_aload_n X dX10_fewestBy_0 0 0 rfl rfl ?_
  refine v_iconst (v := 0) X dX10_fewestBy_1 (by decide) ?_
  refine t_putI X hd rfl fp_X10_108 dX10_fewestBy_2 (fun ms hd => ?_)
  refine v_aload_n X dX10_fewestBy_5 0 0 rfl rfl ?_
  refine v_iconst (v := 0) X dX10_fewestBy_6 (by decide) ?_
  refine t_callV X hK hd (ct_X10_hangAll _ am false) (lw_V q2057 q2059 qs68 q120 q2060) ⟨rfl, dn_X10_hangAll⟩ rfl ⟨by decide, by decide⟩ rfl (Nat.le_of_ble_eq_true rfl) dX10_fewestBy_7 (fun v1 ms hd => ?_)
  show V K 2 (mkM am hn ms) 10 [(0, .ref am), (1, .int p1)] [.int v1]
  refine v_iconst (v := (-1)) X dX10_fewestBy_10 (by decide) ?_
  obtain ⟨u2, m1, hd, hd2⟩ := TM.bind_some hd
  have KJ : V K 2 (mkM am hn m1) 32 [] [.int u2] := by
    clear hd
    have hd := hd2
    exact t_iret X hK hd ho dX10_fewestBy_32
  clear hd2
  refine v_icmp_eq (tgt := 22) X dX10_fewestBy_11 (by decide) (fun q => ?_) (fun q => ?_)
  · have hd := Tite_t q hd
    refine v_iconst (v := (-1)) X dX10_fewestBy_22 (by decide) ?_
    refine v_goto (tgt := 32) X dX10_fewestBy_23 (by decide) ?_
    exact v_loc [] rfl (t_at (P := fun (u2 : Int32) m => V K 2 (mkM am hn m) 32 [] [.int u2]) hd KJ)
  · have hd := Tite_f q hd
    refine v_aload_n X dX10_fewestBy_14 0 0 rfl rfl ?_
    refine v_iload_n X dX10_fewestBy_15 1 1 rfl rfl ?_
    refine t_callV X hK hd (ct_X10_isDoor _ am p1) (lw_V q1982 q1984 qs56 q120 q1985) ⟨rfl, dn_X10_isDoor⟩ rfl ⟨by decide, by decide⟩ rfl (Nat.le_of_ble_eq_true rfl) dX10_fewestBy_16 (fun v3 ms hd => ?_)
    show V K 2 (mkM am hn ms) 19 [(0, .ref am), (1, .int p1)] [.int (b2i v3)]
    refine v_ifZ_ne (tgt := 26) X dX10_fewestBy_19 (by decide) (fun q => ?_) (fun q => ?_)
    · have hd := Tcnd_t q hd
      refine v_aload_n X dX10_fewestBy_26 0 0 rfl rfl ?_
      refine t_getA (j := 15) X rfl fl_X10_57 dX10_fewestBy_27 ?_
      refine v_iload_n X dX10_fewestBy_30 1 1 rfl rfl ?_
      refine t_iald (j := 15) X hd rfl dX10_fewestBy_31 (fun v4 hd => ?_)
      exact v_loc [] rfl (t_at (P := fun (u2 : Int32) m => V K 2 (mkM am hn m) 32 [] [.int u2]) hd KJ)
    · have hd := Tcnd_f q hd
      refine v_iconst (v := (-1)) X dX10_fewestBy_22 (by decide) ?_
      refine v_goto (tgt := 32) X dX10_fewestBy_23 (by decide) ?_
      exact v_loc [] rfl (t_at (P := fun (u2 : Int32) m => V K 2 (mkM am hn m) 32 [] [.int u2]) hd KJ)
def dkwX10_cheapest_1 : List UInt8 := [172]
abbrev dktX10_cheapest_1 : List UInt8 := dkwX10_cheapest_1 ++ []
def dkwX10_cheapest_0 : List UInt8 := [42, 3, 181, 0, 108, 42, 4, 182, 1, 64, 60, 27, 2, 160, 0, 7, 2, 167, 0, 7, 27, 16, 100, 108]
abbrev dktX10_cheapest_0 : List UInt8 := dkwX10_cheapest_0 ++ dktX10_cheapest_1
theorem dksX10_cheapest_0 : cX10_cheapest.data.toList.drop 0 = dktX10_cheapest_0 := by decide +kernel
theorem dksX10_cheapest_1 : cX10_cheapest.data.toList.drop 24 = dktX10_cheapest_1 := dk_seg dksX10_cheapest_0 24 rfl rfl
theorem dX10_cheapest_0 : decode cX10_cheapest 0 = .ok (.aload_n 0, 1) := dk_42 (dk_at dksX10_cheapest_0 0 rfl rfl)
theorem dX10_cheapest_1 : decode cX10_cheapest 1 = .ok (.iconst 0, 1) := dk_3 (dk_at dksX10_cheapest_0 1 rfl rfl)
theorem dX10_cheapest_2 : decode cX10_cheapest 2 = .ok (.putfield 108, 3) := dk_181 0 108 (dk_at dksX10_cheapest_0 2 rfl rfl)
theorem dX10_cheapest_5 : decode cX10_cheapest 5 = .ok (.aload_n 0, 1) := dk_42 (dk_at dksX10_cheapest_0 5 rfl rfl)
theorem dX10_cheapest_6 : decode cX10_cheapest 6 = .ok (.iconst 1, 1) := dk_4 (dk_at dksX10_cheapest_0 6 rfl rfl)
theorem dX10_cheapest_7 : decode cX10_cheapest 7 = .ok (.invokevirtual 320, 3) := dk_182 1 64 (dk_at dksX10_cheapest_0 7 rfl rfl)
theorem dX10_cheapest_10 : decode cX10_cheapest 10 = .ok (.istore_n 1, 1) := dk_60 (dk_at dksX10_cheapest_0 10 rfl rfl)
theorem dX10_cheapest_11 : decode cX10_cheapest 11 = .ok (.iload_n 1, 1) := dk_27 (dk_at dksX10_cheapest_0 11 rfl rfl)
theorem dX10_cheapest_12 : decode cX10_cheapest 12 = .ok (.iconst (-1), 1) := dk_2 (dk_at dksX10_cheapest_0 12 rfl rfl)
theorem dX10_cheapest_13 : decode cX10_cheapest 13 = .ok (.if_icmp .ne 7, 3) := dk_160 0 7 (dk_at dksX10_cheapest_0 13 rfl rfl)
theorem dX10_cheapest_16 : decode cX10_cheapest 16 = .ok (.iconst (-1), 1) := dk_2 (dk_at dksX10_cheapest_0 16 rfl rfl)
theorem dX10_cheapest_17 : decode cX10_cheapest 17 = .ok (.goto 7, 3) := dk_167 0 7 (dk_at dksX10_cheapest_0 17 rfl rfl)
theorem dX10_cheapest_20 : decode cX10_cheapest 20 = .ok (.iload_n 1, 1) := dk_27 (dk_at dksX10_cheapest_0 20 rfl rfl)
theorem dX10_cheapest_21 : decode cX10_cheapest 21 = .ok (.bipush 100, 2) := dk_16 100 (dk_at dksX10_cheapest_0 21 rfl rfl)
theorem dX10_cheapest_23 : decode cX10_cheapest 23 = .ok (.idiv, 1) := dk_108 (dk_at dksX10_cheapest_0 23 rfl rfl)
theorem dX10_cheapest_24 : decode cX10_cheapest 24 = .ok (.ireturn, 1) := dk_172 (dk_at dksX10_cheapest_1 0 rfl rfl)
theorem dn_X10_cheapest : yX10_cheapest.cls ≠ "java/lang/invoke/MethodHandle" ∧ yX10_cheapest.cls ≠ "java/lang/invoke/VarHandle" ∧ (parseMethodDescriptor yX10_cheapest.desc).map (fun d => d.parameters.length) = some 0 := by decide +kernel
noncomputable def M_X10_cheapest  : TM Int32 := TM.bind (sI 0 0) (fun _ => TM.bind (M_X10_hangAll true) (fun v1 => TM.bind ((if v1 = (-1) then TM.pure (-1) else TM.pure (v1 / 100) : TM (Int32))) (fun u2 => TM.pure u2)))
set_option maxHeartbeats 4000000 in
theorem ct_X10_cheapest (G : gG) (am : Nat)  : gCtM G am yX10_cheapest cX10_cheapest 2 (some .int) 16 381 [.ref am] (M_X10_cheapest) (fun x : Int32 => some (.int x)) := by
  refine gCtM.of (by decide) (Nat.le_of_ble_eq_true rfl) (fun K hn ms ms' r hG X hK hd ho => ?_)
  subst hG
  have X : gX K cX10_cheapest 2 "BitingDoorsModel" "cheapest" (some .int) 16 381 := X
  show V K 2 (mkM am hn ms) 0 [(0, .ref am)] []
  unfold M_X10_cheapest at hd
  refine v_aload_n X dX10_cheapest_0 0 0 rfl rfl ?_
  refine v_iconst (v := 0) X dX10_cheapest_1 (by decide) ?_
  refine t_putI X hd rfl fp_X10_108 dX10_cheapest_2 (fun ms hd => ?_)
  refine v_aload_n X dX10_cheapest_5 0 0 rfl rfl ?_
  refine v_iconst (v := 1) X dX10_cheapest_6 (by decide) ?_
  refine t_callV X hK hd (ct_X10_hangAll _ am true) (lw_V q2057 q2059 qs68 q120 q2060) ⟨rfl, dn_X10_hangAll⟩ rfl ⟨by decide, by decide⟩ rfl (Nat.le_of_ble_eq_true rfl) dX10_cheapest_7 (fun v1 ms hd => ?_)
  show V K 2 (mkM am hn ms) 10 [(0, .ref am)] [.int v1]
  refine v_istore_n (lv2 := [(1, .int v1), (0, .ref am)]) X dX10_cheapest_10 1 rfl (by decide) rfl ?_
  refine v_iload_n X dX10_cheapest_11 0 1 rfl rfl ?_
  refine v_iconst (v := (-1)) X dX10_cheapest_12 (by decide) ?_
  obtain ⟨u2, m1, hd, hd2⟩ := TM.bind_some hd
  have KJ : V K 2 (mkM am hn m1) 24 [] [.int u2] := by
    clear hd
    have hd := hd2
    exact t_iret X hK hd ho dX10_cheapest_24
  clear hd2
  refine v_icmp_ne (tgt := 20) X dX10_cheapest_13 (by decide) (fun q => ?_) (fun q => ?_)
  · have hd := Tite_f q hd
    refine v_iload_n X dX10_cheapest_20 0 1 rfl rfl ?_
    refine v_bipush (v := 100) X dX10_cheapest_21 (by decide) ?_
    refine v_idiv X dX10_cheapest_23 (by decide) ?_
    exact v_loc [] rfl (t_at (P := fun (u2 : Int32) m => V K 2 (mkM am hn m) 24 [] [.int u2]) hd KJ)
  · have hd := Tite_t q hd
    refine v_iconst (v := (-1)) X dX10_cheapest_16 (by decide) ?_
    refine v_goto (tgt := 24) X dX10_cheapest_17 (by decide) ?_
    exact v_loc [] rfl (t_at (P := fun (u2 : Int32) m => V K 2 (mkM am hn m) 24 [] [.int u2]) hd KJ)
def dkwX10_deadOne_1 : List UInt8 := [28, 172, 132, 2, 1, 167, 255, 229, 2, 172]
abbrev dktX10_deadOne_1 : List UInt8 := dkwX10_deadOne_1 ++ []
def dkwX10_deadOne_0 : List UInt8 := [3, 61, 28, 42, 182, 0, 211, 162, 0, 25, 28, 27, 159, 0, 14, 42, 180, 0, 60, 28, 46, 154, 0, 5]
abbrev dktX10_deadOne_0 : List UInt8 := dkwX10_deadOne_0 ++ dktX10_deadOne_1
theorem dksX10_deadOne_0 : cX10_deadOne.data.toList.drop 0 = dktX10_deadOne_0 := by decide +kernel
theorem dksX10_deadOne_1 : cX10_deadOne.data.toList.drop 24 = dktX10_deadOne_1 := dk_seg dksX10_deadOne_0 24 rfl rfl
theorem dX10_deadOne_0 : decode cX10_deadOne 0 = .ok (.iconst 0, 1) := dk_3 (dk_at dksX10_deadOne_0 0 rfl rfl)
theorem dX10_deadOne_1 : decode cX10_deadOne 1 = .ok (.istore_n 2, 1) := dk_61 (dk_at dksX10_deadOne_0 1 rfl rfl)
theorem dX10_deadOne_2 : decode cX10_deadOne 2 = .ok (.iload_n 2, 1) := dk_28 (dk_at dksX10_deadOne_0 2 rfl rfl)
theorem dX10_deadOne_3 : decode cX10_deadOne 3 = .ok (.aload_n 0, 1) := dk_42 (dk_at dksX10_deadOne_0 3 rfl rfl)
theorem dX10_deadOne_4 : decode cX10_deadOne 4 = .ok (.invokevirtual 211, 3) := dk_182 0 211 (dk_at dksX10_deadOne_0 4 rfl rfl)
theorem dX10_deadOne_7 : decode cX10_deadOne 7 = .ok (.if_icmp .ge 25, 3) := dk_162 0 25 (dk_at dksX10_deadOne_0 7 rfl rfl)
theorem dX10_deadOne_10 : decode cX10_deadOne 10 = .ok (.iload_n 2, 1) := dk_28 (dk_at dksX10_deadOne_0 10 rfl rfl)
theorem dX10_deadOne_11 : decode cX10_deadOne 11 = .ok (.iload_n 1, 1) := dk_27 (dk_at dksX10_deadOne_0 11 rfl rfl)
theorem dX10_deadOne_12 : decode cX10_deadOne 12 = .ok (.if_icmp .eq 14, 3) := dk_159 0 14 (dk_at dksX10_deadOne_0 12 rfl rfl)
theorem dX10_deadOne_15 : decode cX10_deadOne 15 = .ok (.aload_n 0, 1) := dk_42 (dk_at dksX10_deadOne_0 15 rfl rfl)
theorem dX10_deadOne_16 : decode cX10_deadOne 16 = .ok (.getfield 60, 3) := dk_180 0 60 (dk_at dksX10_deadOne_0 16 rfl rfl)
theorem dX10_deadOne_19 : decode cX10_deadOne 19 = .ok (.iload_n 2, 1) := dk_28 (dk_at dksX10_deadOne_0 19 rfl rfl)
theorem dX10_deadOne_20 : decode cX10_deadOne 20 = .ok (.iaload, 1) := dk_46 (dk_at dksX10_deadOne_0 20 rfl rfl)
theorem dX10_deadOne_21 : decode cX10_deadOne 21 = .ok (.ifCond .ne 5, 3) := dk_154 0 5 (dk_at dksX10_deadOne_0 21 rfl rfl)
theorem dX10_deadOne_24 : decode cX10_deadOne 24 = .ok (.iload_n 2, 1) := dk_28 (dk_at dksX10_deadOne_1 0 rfl rfl)
theorem dX10_deadOne_25 : decode cX10_deadOne 25 = .ok (.ireturn, 1) := dk_172 (dk_at dksX10_deadOne_1 1 rfl rfl)
theorem dX10_deadOne_26 : decode cX10_deadOne 26 = .ok (.iinc 2 1, 3) := dk_132 2 1 (dk_at dksX10_deadOne_1 2 rfl rfl)
theorem dX10_deadOne_29 : decode cX10_deadOne 29 = .ok (.goto (-27), 3) := dk_167 255 229 (dk_at dksX10_deadOne_1 5 rfl rfl)
theorem dX10_deadOne_32 : decode cX10_deadOne 32 = .ok (.iconst (-1), 1) := dk_2 (dk_at dksX10_deadOne_1 8 rfl rfl)
theorem dX10_deadOne_33 : decode cX10_deadOne 33 = .ok (.ireturn, 1) := dk_172 (dk_at dksX10_deadOne_1 9 rfl rfl)
theorem fl_X10_60 : gFl "BitingDoorsModel" 60 [8] 34 := by
  intro args s hts hN ci hc
  simp only [List.mem_cons, List.not_mem_nil, or_false] at hc
  subst hc
  exact ⟨RX10, TX10, 64, "BitingDoorsModel", gCl_X10, in_X10, by decide, Or.inl (hts _ q1684), fun _ h => h⟩
theorem dn_X10_deadOne : yX10_deadOne.cls ≠ "java/lang/invoke/MethodHandle" ∧ yX10_deadOne.cls ≠ "java/lang/invoke/VarHandle" ∧ (parseMethodDescriptor yX10_deadOne.desc).map (fun d => d.parameters.length) = some 1 := by decide +kernel
noncomputable def M_X10_deadOne (p1 : Int32) : TM Int32 := TM.loop (S := Int32) (fun s1 => TM.bind (M_X10_doors) (fun v4 => if v4 ≤ s1 then TM.pure (Sum.inr (-1)) else if s1 = p1 then TM.lv (s1 + 1) (fun v5 => TM.pure (Sum.inl v5)) else TM.bind (tA 34 10 s1) (fun v6 => if v6 = 0 then TM.pure (Sum.inr s1) else TM.lv (s1 + 1) (fun v7 => TM.pure (Sum.inl v7))))) 0
set_option maxHeartbeats 4000000 in
theorem ct_X10_deadOne (G : gG) (am : Nat) (p1 : Int32) : gCtM G am yX10_deadOne cX10_deadOne 3 (some .int) 1 20 [.ref am, .int p1] (M_X10_deadOne p1) (fun x : Int32 => some (.int x)) := by
  refine gCtM.of (by decide) (Nat.le_of_ble_eq_true rfl) (fun K hn ms ms' r hG X hK hd ho => ?_)
  subst hG
  have X : gX K cX10_deadOne 3 "BitingDoorsModel" "deadOne" (some .int) 1 20 := X
  show V K 3 (mkM am hn ms) 0 [(0, .ref am), (1, .int p1)] []
  unfold M_X10_deadOne at hd
  refine v_iconst (v := 0) X dX10_deadOne_0 (by decide) ?_
  refine v_istore_n (lv2 := [(2, .int 0), (0, .ref am), (1, .int p1)]) X dX10_deadOne_1 2 rfl (by decide) rfl ?_
  refine v_loc [1, 2, 0] rfl ?_
  refine Tloop_ind hd (fun (s1 : Int32) m => V K 3 (mkM am hn m) 2 [(0, .ref am), (1, .int p1), (2, .int s1)] []) (fun s1 ms x m2 hd ih2 ho3 => ?_)
  refine v_iload_n X dX10_deadOne_2 2 2 rfl rfl ?_
  refine v_aload_n X dX10_deadOne_3 0 0 rfl rfl ?_
  refine t_callV X hK hd (ct_X10_doors _ am) (lw_V q1986 q1988 qs57 q120 q1989) ⟨rfl, dn_X10_doors⟩ rfl ⟨by decide, by decide⟩ rfl (Nat.le_of_ble_eq_true rfl) dX10_deadOne_4 (fun v4 ms hd => ?_)
  show V K 3 (mkM am hn ms) 7 [(0, .ref am), (1, .int p1), (2, .int s1)] [.int v4, .int s1]
  refine v_icmp_ge (tgt := 32) X dX10_deadOne_7 (by decide) (fun q => ?_) (fun q => ?_)
  · have hd := Tite_t q hd
    refine v_iconst (v := (-1)) X dX10_deadOne_32 (by decide) ?_
    have hd := Tlp_out hd ho3
    exact t_iret X hK hd ho dX10_deadOne_33
  · have hd := Tite_f q hd
    refine v_iload_n X dX10_deadOne_10 2 2 rfl rfl ?_
    refine v_iload_n X dX10_deadOne_11 1 1 rfl rfl ?_
    refine v_icmp_eq (tgt := 26) X dX10_deadOne_12 (by decide) (fun q => ?_) (fun q => ?_)
    · have hd := Tite_t q hd
      refine t_iincL (lv2 := fun v5 => [(2, .int v5), (0, .ref am), (1, .int p1)]) X hd dX10_deadOne_26 2 rfl (by decide : Int32.ofInt 1 = 1) (by decide) (fun v5 => rfl) (fun v5 hd => ?_)
      refine v_goto (tgt := 2) X dX10_deadOne_29 (by decide) ?_
      exact v_loc [1, 2, 0] rfl (Tlp_in (P := fun (s1 : Int32) m => V K 3 (mkM am hn m) 2 [(0, .ref am), (1, .int p1), (2, .int s1)] []) hd ih2)
    · have hd := Tite_f q hd
      refine v_aload_n X dX10_deadOne_15 0 0 rfl rfl ?_
      refine t_getA (j := 16) X rfl fl_X10_60 dX10_deadOne_16 ?_
      refine v_iload_n X dX10_deadOne_19 2 2 rfl rfl ?_
      refine t_iald (j := 16) X hd rfl dX10_deadOne_20 (fun v6 hd => ?_)
      refine v_if_ne (tgt := 26) X dX10_deadOne_21 (by decide) (fun q => ?_) (fun q => ?_)
      · have hd := Tite_f q hd
        refine t_iincL (lv2 := fun v7 => [(2, .int v7), (0, .ref am), (1, .int p1)]) X hd dX10_deadOne_26 2 rfl (by decide : Int32.ofInt 1 = 1) (by decide) (fun v7 => rfl) (fun v7 hd => ?_)
        refine v_goto (tgt := 2) X dX10_deadOne_29 (by decide) ?_
        exact v_loc [1, 2, 0] rfl (Tlp_in (P := fun (s1 : Int32) m => V K 3 (mkM am hn m) 2 [(0, .ref am), (1, .int p1), (2, .int s1)] []) hd ih2)
      · have hd := Tite_t q hd
        refine v_iload_n X dX10_deadOne_24 2 2 rfl rfl ?_
        have hd := Tlp_out hd ho3
        exact t_iret X hK hd ho dX10_deadOne_25
def dkwX10_drop_3 : List UInt8 := [167, 255, 218, 132, 4, 1, 167, 255, 185, 177]
abbrev dktX10_drop_3 : List UInt8 := dkwX10_drop_3 ++ []
def dkwX10_drop_2 : List UInt8 := [153, 0, 19, 42, 180, 0, 60, 21, 4, 92, 46, 4, 21, 5, 120, 2, 130, 126, 79, 132, 5, 1]
abbrev dktX10_drop_2 : List UInt8 := dkwX10_drop_2 ++ dktX10_drop_3
def dkwX10_drop_1 : List UInt8 := [167, 0, 47, 3, 54, 5, 21, 5, 7, 162, 0, 38, 42, 27, 28, 21, 4, 21, 5, 182, 1, 42]
abbrev dktX10_drop_1 : List UInt8 := dkwX10_drop_1 ++ dktX10_drop_2
def dkwX10_drop_0 : List UInt8 := [3, 54, 4, 21, 4, 42, 182, 0, 211, 162, 0, 68, 21, 4, 27, 159, 0, 56, 21, 4, 29, 160, 0, 6]
abbrev dktX10_drop_0 : List UInt8 := dkwX10_drop_0 ++ dktX10_drop_1
theorem dksX10_drop_0 : cX10_drop.data.toList.drop 0 = dktX10_drop_0 := by decide +kernel
theorem dksX10_drop_1 : cX10_drop.data.toList.drop 24 = dktX10_drop_1 := dk_seg dksX10_drop_0 24 rfl rfl
theorem dksX10_drop_2 : cX10_drop.data.toList.drop 46 = dktX10_drop_2 := dk_seg dksX10_drop_1 22 rfl rfl
theorem dksX10_drop_3 : cX10_drop.data.toList.drop 68 = dktX10_drop_3 := dk_seg dksX10_drop_2 22 rfl rfl
theorem dX10_drop_0 : decode cX10_drop 0 = .ok (.iconst 0, 1) := dk_3 (dk_at dksX10_drop_0 0 rfl rfl)
theorem dX10_drop_1 : decode cX10_drop 1 = .ok (.istore 4, 2) := dk_54 4 (dk_at dksX10_drop_0 1 rfl rfl)
theorem dX10_drop_3 : decode cX10_drop 3 = .ok (.iload 4, 2) := dk_21 4 (dk_at dksX10_drop_0 3 rfl rfl)
theorem dX10_drop_5 : decode cX10_drop 5 = .ok (.aload_n 0, 1) := dk_42 (dk_at dksX10_drop_0 5 rfl rfl)
theorem dX10_drop_6 : decode cX10_drop 6 = .ok (.invokevirtual 211, 3) := dk_182 0 211 (dk_at dksX10_drop_0 6 rfl rfl)
theorem dX10_drop_9 : decode cX10_drop 9 = .ok (.if_icmp .ge 68, 3) := dk_162 0 68 (dk_at dksX10_drop_0 9 rfl rfl)
theorem dX10_drop_12 : decode cX10_drop 12 = .ok (.iload 4, 2) := dk_21 4 (dk_at dksX10_drop_0 12 rfl rfl)
theorem dX10_drop_14 : decode cX10_drop 14 = .ok (.iload_n 1, 1) := dk_27 (dk_at dksX10_drop_0 14 rfl rfl)
theorem dX10_drop_15 : decode cX10_drop 15 = .ok (.if_icmp .eq 56, 3) := dk_159 0 56 (dk_at dksX10_drop_0 15 rfl rfl)
theorem dX10_drop_18 : decode cX10_drop 18 = .ok (.iload 4, 2) := dk_21 4 (dk_at dksX10_drop_0 18 rfl rfl)
theorem dX10_drop_20 : decode cX10_drop 20 = .ok (.iload_n 3, 1) := dk_29 (dk_at dksX10_drop_0 20 rfl rfl)
theorem dX10_drop_21 : decode cX10_drop 21 = .ok (.if_icmp .ne 6, 3) := dk_160 0 6 (dk_at dksX10_drop_0 21 rfl rfl)
theorem dX10_drop_24 : decode cX10_drop 24 = .ok (.goto 47, 3) := dk_167 0 47 (dk_at dksX10_drop_1 0 rfl rfl)
theorem dX10_drop_27 : decode cX10_drop 27 = .ok (.iconst 0, 1) := dk_3 (dk_at dksX10_drop_1 3 rfl rfl)
theorem dX10_drop_28 : decode cX10_drop 28 = .ok (.istore 5, 2) := dk_54 5 (dk_at dksX10_drop_1 4 rfl rfl)
theorem dX10_drop_30 : decode cX10_drop 30 = .ok (.iload 5, 2) := dk_21 5 (dk_at dksX10_drop_1 6 rfl rfl)
theorem dX10_drop_32 : decode cX10_drop 32 = .ok (.iconst 4, 1) := dk_7 (dk_at dksX10_drop_1 8 rfl rfl)
theorem dX10_drop_33 : decode cX10_drop 33 = .ok (.if_icmp .ge 38, 3) := dk_162 0 38 (dk_at dksX10_drop_1 9 rfl rfl)
theorem dX10_drop_36 : decode cX10_drop 36 = .ok (.aload_n 0, 1) := dk_42 (dk_at dksX10_drop_1 12 rfl rfl)
theorem dX10_drop_37 : decode cX10_drop 37 = .ok (.iload_n 1, 1) := dk_27 (dk_at dksX10_drop_1 13 rfl rfl)
theorem dX10_drop_38 : decode cX10_drop 38 = .ok (.iload_n 2, 1) := dk_28 (dk_at dksX10_drop_1 14 rfl rfl)
theorem dX10_drop_39 : decode cX10_drop 39 = .ok (.iload 4, 2) := dk_21 4 (dk_at dksX10_drop_1 15 rfl rfl)
theorem dX10_drop_41 : decode cX10_drop 41 = .ok (.iload 5, 2) := dk_21 5 (dk_at dksX10_drop_1 17 rfl rfl)
theorem dX10_drop_43 : decode cX10_drop 43 = .ok (.invokevirtual 298, 3) := dk_182 1 42 (dk_at dksX10_drop_1 19 rfl rfl)
theorem dX10_drop_46 : decode cX10_drop 46 = .ok (.ifCond .eq 19, 3) := dk_153 0 19 (dk_at dksX10_drop_2 0 rfl rfl)
theorem dX10_drop_49 : decode cX10_drop 49 = .ok (.aload_n 0, 1) := dk_42 (dk_at dksX10_drop_2 3 rfl rfl)
theorem dX10_drop_50 : decode cX10_drop 50 = .ok (.getfield 60, 3) := dk_180 0 60 (dk_at dksX10_drop_2 4 rfl rfl)
theorem dX10_drop_53 : decode cX10_drop 53 = .ok (.iload 4, 2) := dk_21 4 (dk_at dksX10_drop_2 7 rfl rfl)
theorem dX10_drop_55 : decode cX10_drop 55 = .ok (.dup2, 1) := dk_92 (dk_at dksX10_drop_2 9 rfl rfl)
theorem dX10_drop_56 : decode cX10_drop 56 = .ok (.iaload, 1) := dk_46 (dk_at dksX10_drop_2 10 rfl rfl)
theorem dX10_drop_57 : decode cX10_drop 57 = .ok (.iconst 1, 1) := dk_4 (dk_at dksX10_drop_2 11 rfl rfl)
theorem dX10_drop_58 : decode cX10_drop 58 = .ok (.iload 5, 2) := dk_21 5 (dk_at dksX10_drop_2 12 rfl rfl)
theorem dX10_drop_60 : decode cX10_drop 60 = .ok (.ishl, 1) := dk_120 (dk_at dksX10_drop_2 14 rfl rfl)
theorem dX10_drop_61 : decode cX10_drop 61 = .ok (.iconst (-1), 1) := dk_2 (dk_at dksX10_drop_2 15 rfl rfl)
theorem dX10_drop_62 : decode cX10_drop 62 = .ok (.ixor, 1) := dk_130 (dk_at dksX10_drop_2 16 rfl rfl)
theorem dX10_drop_63 : decode cX10_drop 63 = .ok (.iand, 1) := dk_126 (dk_at dksX10_drop_2 17 rfl rfl)
theorem dX10_drop_64 : decode cX10_drop 64 = .ok (.iastore, 1) := dk_79 (dk_at dksX10_drop_2 18 rfl rfl)
theorem dX10_drop_65 : decode cX10_drop 65 = .ok (.iinc 5 1, 3) := dk_132 5 1 (dk_at dksX10_drop_2 19 rfl rfl)
theorem dX10_drop_68 : decode cX10_drop 68 = .ok (.goto (-38), 3) := dk_167 255 218 (dk_at dksX10_drop_3 0 rfl rfl)
theorem dX10_drop_71 : decode cX10_drop 71 = .ok (.iinc 4 1, 3) := dk_132 4 1 (dk_at dksX10_drop_3 3 rfl rfl)
theorem dX10_drop_74 : decode cX10_drop 74 = .ok (.goto (-71), 3) := dk_167 255 185 (dk_at dksX10_drop_3 6 rfl rfl)
theorem dX10_drop_77 : decode cX10_drop 77 = .ok (.return_, 1) := dk_177 (dk_at dksX10_drop_3 9 rfl rfl)
theorem dn_X10_drop : yX10_drop.cls ≠ "java/lang/invoke/MethodHandle" ∧ yX10_drop.cls ≠ "java/lang/invoke/VarHandle" ∧ (parseMethodDescriptor yX10_drop.desc).map (fun d => d.parameters.length) = some 3 := by decide +kernel
noncomputable def M_X10_drop (p1 : Int32) (p2 : Int32) (p3 : Int32) : TM Unit := TM.bind (TM.loop (S := Int32) (E := Unit) (fun s1 => TM.bind (M_X10_doors) (fun v5 => if v5 ≤ s1 then TM.pure (Sum.inr ()) else TM.bind ((if s1 = p1 then TM.pure () else if s1 = p3 then TM.pure () else TM.bind (TM.loop (S := Int32) (E := Unit) (fun s8 => if 4 ≤ s8 then TM.pure (Sum.inr ()) else TM.bind (M_X10_bite p1 p2 s1 s8) (fun v12 => TM.bind ((cond v12 (TM.bind (tA 34 10 s1) (fun v15 => TM.bind (sA 34 10 s1 (v15 &&& ((1 <<< (s8 &&& 31)) ^^^ (-1)))) (fun _ => TM.pure ()))) (TM.pure ()) : TM (Unit))) (fun u13 => TM.lv (s8 + 1) (fun v14 => TM.pure (Sum.inl v14))))) 0) (fun e11 => TM.pure ()) : TM (Unit))) (fun u6 => TM.lv (s1 + 1) (fun v7 => TM.pure (Sum.inl v7))))) 0) (fun e4 => TM.pure ())
set_option maxHeartbeats 4000000 in
theorem ct_X10_drop (G : gG) (am : Nat) (p1 : Int32) (p2 : Int32) (p3 : Int32) : gCtM G am yX10_drop cX10_drop 6 none 1 24 [.ref am, .int p1, .int p2, .int p3] (M_X10_drop p1 p2 p3) (fun _ : Unit => none) := by
  refine gCtM.of (by decide) (Nat.le_of_ble_eq_true rfl) (fun K hn ms ms' r hG X hK hd ho => ?_)
  subst hG
  have X : gX K cX10_drop 6 "BitingDoorsModel" "drop" none 1 24 := X
  show V K 6 (mkM am hn ms) 0 [(0, .ref am), (1, .int p1), (2, .int p2), (3, .int p3)] []
  unfold M_X10_drop at hd
  refine v_iconst (v := 0) X dX10_drop_0 (by decide) ?_
  refine v_istore (lv2 := [(4, .int 0), (0, .ref am), (1, .int p1), (2, .int p2), (3, .int p3)]) X dX10_drop_1 (by decide) rfl ?_
  obtain ⟨e4, m1, hd, hd2⟩ := TM.bind_some hd
  have KX : V K 6 (mkM am hn m1) 77 [] [] := by
    clear hd
    have hd := hd2
    exact t_vret X hK hd ho dX10_drop_77
  clear hd2
  refine v_loc [1, 2, 3, 4, 0] rfl ?_
  refine Tloop_ind hd (fun (s1 : Int32) m => V K 6 (mkM am hn m) 3 [(0, .ref am), (1, .int p1), (2, .int p2), (3, .int p3), (4, .int s1)] []) (fun s1 ms x m2 hd ih2 ho3 => ?_)
  refine v_iload X dX10_drop_3 4 rfl ?_
  refine v_aload_n X dX10_drop_5 0 0 rfl rfl ?_
  refine t_callV X hK hd (ct_X10_doors _ am) (lw_V q1986 q1988 qs57 q120 q1989) ⟨rfl, dn_X10_doors⟩ rfl ⟨by decide, by decide⟩ rfl (Nat.le_of_ble_eq_true rfl) dX10_drop_6 (fun v5 ms hd => ?_)
  show V K 6 (mkM am hn ms) 9 [(0, .ref am), (1, .int p1), (2, .int p2), (3, .int p3), (4, .int s1)] [.int v5, .int s1]
  refine v_icmp_ge (tgt := 77) X dX10_drop_9 (by decide) (fun q => ?_) (fun q => ?_)
  · have hd := Tite_t q hd
    exact v_loc [] rfl (t_at (P := fun (e4 : Unit) m => V K 6 (mkM am hn m) 77 [] []) (Tlp_out hd ho3) KX)
  · have hd := Tite_f q hd
    refine v_iload X dX10_drop_12 4 rfl ?_
    refine v_iload_n X dX10_drop_14 1 1 rfl rfl ?_
    obtain ⟨u6, m1, hd, hd2⟩ := TM.bind_some hd
    have KJ : V K 6 (mkM am hn m1) 71 [(0, .ref am), (1, .int p1), (2, .int p2), (3, .int p3), (4, .int s1)] [] := by
      clear hd
      have hd := hd2
      refine t_iincL (lv2 := fun v7 => [(4, .int v7), (0, .ref am), (1, .int p1), (2, .int p2), (3, .int p3)]) X hd dX10_drop_71 4 rfl (by decide : Int32.ofInt 1 = 1) (by decide) (fun v7 => rfl) (fun v7 hd => ?_)
      refine v_goto (tgt := 3) X dX10_drop_74 (by decide) ?_
      exact v_loc [1, 2, 3, 4, 0] rfl (Tlp_in (P := fun (s1 : Int32) m => V K 6 (mkM am hn m) 3 [(0, .ref am), (1, .int p1), (2, .int p2), (3, .int p3), (4, .int s1)] []) hd ih2)
    clear hd2
    refine v_icmp_eq (tgt := 71) X dX10_drop_15 (by decide) (fun q => ?_) (fun q => ?_)
    · have hd := Tite_t q hd
      exact v_loc [0, 1, 2, 3, 4] rfl (t_at (P := fun (u6 : Unit) m => V K 6 (mkM am hn m) 71 [(0, .ref am), (1, .int p1), (2, .int p2), (3, .int p3), (4, .int s1)] []) hd KJ)
    · have hd := Tite_f q hd
      refine v_iload X dX10_drop_18 4 rfl ?_
      refine v_iload_n X dX10_drop_20 3 3 rfl rfl ?_
      refine v_icmp_ne (tgt := 27) X dX10_drop_21 (by decide) (fun q => ?_) (fun q => ?_)
      · have hd := Tite_f q hd
        refine v_iconst (v := 0) X dX10_drop_27 (by decide) ?_
        refine v_istore (lv2 := [(5, .int 0), (0, .ref am), (1, .int p1), (2, .int p2), (3, .int p3), (4, .int s1)]) X dX10_drop_28 (by decide) rfl ?_
        obtain ⟨e11, m1, hd, hd2⟩ := TM.bind_some hd
        have KX : V K 6 (mkM am hn m1) 71 [(0, .ref am), (1, .int p1), (2, .int p2), (3, .int p3), (4, .int s1)] [] := by
          clear hd
          have hd := hd2
          exact v_loc [0, 1, 2, 3, 4] rfl (t_at (P := fun (u6 : Unit) m => V K 6 (mkM am hn m) 71 [(0, .ref am), (1, .int p1), (2, .int p2), (3, .int p3), (4, .int s1)] []) hd KJ)
        clear hd2
        refine v_loc [1, 2, 3, 4, 5, 0] rfl ?_
        refine Tloop_ind hd (fun (s8 : Int32) m => V K 6 (mkM am hn m) 30 [(0, .ref am), (1, .int p1), (2, .int p2), (3, .int p3), (4, .int s1), (5, .int s8)] []) (fun s8 ms x m2 hd ih9 ho10 => ?_)
        refine v_iload X dX10_drop_30 5 rfl ?_
        refine v_iconst (v := 4) X dX10_drop_32 (by decide) ?_
        refine v_icmp_ge (tgt := 71) X dX10_drop_33 (by decide) (fun q => ?_) (fun q => ?_)
        · have hd := Tite_t q hd
          exact v_loc [0, 1, 2, 3, 4] rfl (t_at (P := fun (e11 : Unit) m => V K 6 (mkM am hn m) 71 [(0, .ref am), (1, .int p1), (2, .int p2), (3, .int p3), (4, .int s1)] []) (Tlp_out hd ho10) KX)
        · have hd := Tite_f q hd
          refine v_aload_n X dX10_drop_36 0 0 rfl rfl ?_
          refine v_iload_n X dX10_drop_37 1 1 rfl rfl ?_
          refine v_iload_n X dX10_drop_38 2 2 rfl rfl ?_
          refine v_iload X dX10_drop_39 4 rfl ?_
          refine v_iload X dX10_drop_41 5 rfl ?_
          refine t_callV X hK hd (ct_X10_bite _ am p1 p2 s1 s8) (lw_V q2049 q2051 qs67 q120 q2052) ⟨rfl, dn_X10_bite⟩ rfl ⟨by decide, by decide⟩ rfl (Nat.le_of_ble_eq_true rfl) dX10_drop_43 (fun v12 ms hd => ?_)
          show V K 6 (mkM am hn ms) 46 [(0, .ref am), (1, .int p1), (2, .int p2), (3, .int p3), (4, .int s1), (5, .int s8)] [.int (b2i v12)]
          obtain ⟨u13, m1, hd, hd2⟩ := TM.bind_some hd
          have KJ : V K 6 (mkM am hn m1) 65 [(0, .ref am), (1, .int p1), (2, .int p2), (3, .int p3), (4, .int s1), (5, .int s8)] [] := by
            clear hd
            have hd := hd2
            refine t_iincL (lv2 := fun v14 => [(5, .int v14), (0, .ref am), (1, .int p1), (2, .int p2), (3, .int p3), (4, .int s1)]) X hd dX10_drop_65 5 rfl (by decide : Int32.ofInt 1 = 1) (by decide) (fun v14 => rfl) (fun v14 hd => ?_)
            refine v_goto (tgt := 30) X dX10_drop_68 (by decide) ?_
            exact v_loc [1, 2, 3, 4, 5, 0] rfl (Tlp_in (P := fun (s8 : Int32) m => V K 6 (mkM am hn m) 30 [(0, .ref am), (1, .int p1), (2, .int p2), (3, .int p3), (4, .int s1), (5, .int s8)] []) hd ih9)
          clear hd2
          refine v_ifZ_eq (tgt := 65) X dX10_drop_46 (by decide) (fun q => ?_) (fun q => ?_)
          · have hd := Tcnd_f q hd
            exact v_loc [0, 1, 2, 3, 4, 5] rfl (t_at (P := fun (u13 : Unit) m => V K 6 (mkM am hn m) 65 [(0, .ref am), (1, .int p1), (2, .int p2), (3, .int p3), (4, .int s1), (5, .int s8)] []) hd KJ)
          · have hd := Tcnd_t q hd
            refine v_aload_n X dX10_drop_49 0 0 rfl rfl ?_
            refine t_getA (j := 16) X rfl fl_X10_60 dX10_drop_50 ?_
            refine v_iload X dX10_drop_53 4 rfl ?_
            refine v_dup2 X dX10_drop_55 rfl rfl ?_
            refine t_iald (j := 16) X hd rfl dX10_drop_56 (fun v15 hd => ?_)
            refine v_iconst (v := 1) X dX10_drop_57 (by decide) ?_
            refine v_iload X dX10_drop_58 5 rfl ?_
            refine v_ishl X dX10_drop_60 ?_
            refine v_iconst (v := (-1)) X dX10_drop_61 (by decide) ?_
            refine v_ixor X dX10_drop_62 ?_
            refine v_iand X dX10_drop_63 ?_
            refine t_iast (j := 16) X hd rfl dX10_drop_64 (fun ms hd => ?_)
            exact v_loc [0, 1, 2, 3, 4, 5] rfl (t_at (P := fun (u13 : Unit) m => V K 6 (mkM am hn m) 65 [(0, .ref am), (1, .int p1), (2, .int p2), (3, .int p3), (4, .int s1), (5, .int s8)] []) hd KJ)
      · have hd := Tite_t q hd
        refine v_goto (tgt := 71) X dX10_drop_24 (by decide) ?_
        exact v_loc [0, 1, 2, 3, 4] rfl (t_at (P := fun (u6 : Unit) m => V K 6 (mkM am hn m) 71 [(0, .ref am), (1, .int p1), (2, .int p2), (3, .int p3), (4, .int s1)] []) hd KJ)
def dkwX10_nextForced_1 : List UInt8 := [180, 0, 60, 29, 46, 184, 1, 74, 4, 160, 0, 5, 29, 172, 132, 3, 1, 167, 255, 217, 2, 172]
abbrev dktX10_nextForced_1 : List UInt8 := dkwX10_nextForced_1 ++ []
def dkwX10_nextForced_0 : List UInt8 := [3, 62, 29, 42, 182, 0, 211, 162, 0, 37, 29, 27, 159, 0, 26, 28, 29, 184, 0, 231, 154, 0, 18, 42]
abbrev dktX10_nextForced_0 : List UInt8 := dkwX10_nextForced_0 ++ dktX10_nextForced_1
theorem dksX10_nextForced_0 : cX10_nextForced.data.toList.drop 0 = dktX10_nextForced_0 := by decide +kernel
theorem dksX10_nextForced_1 : cX10_nextForced.data.toList.drop 24 = dktX10_nextForced_1 := dk_seg dksX10_nextForced_0 24 rfl rfl
theorem dX10_nextForced_0 : decode cX10_nextForced 0 = .ok (.iconst 0, 1) := dk_3 (dk_at dksX10_nextForced_0 0 rfl rfl)
theorem dX10_nextForced_1 : decode cX10_nextForced 1 = .ok (.istore_n 3, 1) := dk_62 (dk_at dksX10_nextForced_0 1 rfl rfl)
theorem dX10_nextForced_2 : decode cX10_nextForced 2 = .ok (.iload_n 3, 1) := dk_29 (dk_at dksX10_nextForced_0 2 rfl rfl)
theorem dX10_nextForced_3 : decode cX10_nextForced 3 = .ok (.aload_n 0, 1) := dk_42 (dk_at dksX10_nextForced_0 3 rfl rfl)
theorem dX10_nextForced_4 : decode cX10_nextForced 4 = .ok (.invokevirtual 211, 3) := dk_182 0 211 (dk_at dksX10_nextForced_0 4 rfl rfl)
theorem dX10_nextForced_7 : decode cX10_nextForced 7 = .ok (.if_icmp .ge 37, 3) := dk_162 0 37 (dk_at dksX10_nextForced_0 7 rfl rfl)
theorem dX10_nextForced_10 : decode cX10_nextForced 10 = .ok (.iload_n 3, 1) := dk_29 (dk_at dksX10_nextForced_0 10 rfl rfl)
theorem dX10_nextForced_11 : decode cX10_nextForced 11 = .ok (.iload_n 1, 1) := dk_27 (dk_at dksX10_nextForced_0 11 rfl rfl)
theorem dX10_nextForced_12 : decode cX10_nextForced 12 = .ok (.if_icmp .eq 26, 3) := dk_159 0 26 (dk_at dksX10_nextForced_0 12 rfl rfl)
theorem dX10_nextForced_15 : decode cX10_nextForced 15 = .ok (.iload_n 2, 1) := dk_28 (dk_at dksX10_nextForced_0 15 rfl rfl)
theorem dX10_nextForced_16 : decode cX10_nextForced 16 = .ok (.iload_n 3, 1) := dk_29 (dk_at dksX10_nextForced_0 16 rfl rfl)
theorem dX10_nextForced_17 : decode cX10_nextForced 17 = .ok (.invokestatic 231, 3) := dk_184 0 231 (dk_at dksX10_nextForced_0 17 rfl rfl)
theorem dX10_nextForced_20 : decode cX10_nextForced 20 = .ok (.ifCond .ne 18, 3) := dk_154 0 18 (dk_at dksX10_nextForced_0 20 rfl rfl)
theorem dX10_nextForced_23 : decode cX10_nextForced 23 = .ok (.aload_n 0, 1) := dk_42 (dk_at dksX10_nextForced_0 23 rfl rfl)
theorem dX10_nextForced_24 : decode cX10_nextForced 24 = .ok (.getfield 60, 3) := dk_180 0 60 (dk_at dksX10_nextForced_1 0 rfl rfl)
theorem dX10_nextForced_27 : decode cX10_nextForced 27 = .ok (.iload_n 3, 1) := dk_29 (dk_at dksX10_nextForced_1 3 rfl rfl)
theorem dX10_nextForced_28 : decode cX10_nextForced 28 = .ok (.iaload, 1) := dk_46 (dk_at dksX10_nextForced_1 4 rfl rfl)
theorem dX10_nextForced_29 : decode cX10_nextForced 29 = .ok (.invokestatic 330, 3) := dk_184 1 74 (dk_at dksX10_nextForced_1 5 rfl rfl)
theorem dX10_nextForced_32 : decode cX10_nextForced 32 = .ok (.iconst 1, 1) := dk_4 (dk_at dksX10_nextForced_1 8 rfl rfl)
theorem dX10_nextForced_33 : decode cX10_nextForced 33 = .ok (.if_icmp .ne 5, 3) := dk_160 0 5 (dk_at dksX10_nextForced_1 9 rfl rfl)
theorem dX10_nextForced_36 : decode cX10_nextForced 36 = .ok (.iload_n 3, 1) := dk_29 (dk_at dksX10_nextForced_1 12 rfl rfl)
theorem dX10_nextForced_37 : decode cX10_nextForced 37 = .ok (.ireturn, 1) := dk_172 (dk_at dksX10_nextForced_1 13 rfl rfl)
theorem dX10_nextForced_38 : decode cX10_nextForced 38 = .ok (.iinc 3 1, 3) := dk_132 3 1 (dk_at dksX10_nextForced_1 14 rfl rfl)
theorem dX10_nextForced_41 : decode cX10_nextForced 41 = .ok (.goto (-39), 3) := dk_167 255 217 (dk_at dksX10_nextForced_1 17 rfl rfl)
theorem dX10_nextForced_44 : decode cX10_nextForced 44 = .ok (.iconst (-1), 1) := dk_2 (dk_at dksX10_nextForced_1 20 rfl rfl)
theorem dX10_nextForced_45 : decode cX10_nextForced 45 = .ok (.ireturn, 1) := dk_172 (dk_at dksX10_nextForced_1 21 rfl rfl)
theorem dn_X10_nextForced : yX10_nextForced.cls ≠ "java/lang/invoke/MethodHandle" ∧ yX10_nextForced.cls ≠ "java/lang/invoke/VarHandle" ∧ (parseMethodDescriptor yX10_nextForced.desc).map (fun d => d.parameters.length) = some 2 := by decide +kernel
noncomputable def M_X10_nextForced (p1 : Int32) (p2 : Int32) : TM Int32 := TM.loop (S := Int32) (fun s1 => TM.bind (M_X10_doors) (fun v4 => if v4 ≤ s1 then TM.pure (Sum.inr (-1)) else if s1 = p1 then TM.lv (s1 + 1) (fun v5 => TM.pure (Sum.inl v5)) else TM.bind (M_X10_has p2 s1) (fun v6 => cond v6 (TM.lv (s1 + 1) (fun v7 => TM.pure (Sum.inl v7))) (TM.bind (tA 34 10 s1) (fun v8 => TM.bind (M_X10_bits v8) (fun v9 => if v9 = 1 then TM.pure (Sum.inr s1) else TM.lv (s1 + 1) (fun v10 => TM.pure (Sum.inl v10)))))))) 0
set_option maxHeartbeats 4000000 in
theorem ct_X10_nextForced (G : gG) (am : Nat) (p1 : Int32) (p2 : Int32) : gCtM G am yX10_nextForced cX10_nextForced 4 (some .int) 1 22 [.ref am, .int p1, .int p2] (M_X10_nextForced p1 p2) (fun x : Int32 => some (.int x)) := by
  refine gCtM.of (by decide) (Nat.le_of_ble_eq_true rfl) (fun K hn ms ms' r hG X hK hd ho => ?_)
  subst hG
  have X : gX K cX10_nextForced 4 "BitingDoorsModel" "nextForced" (some .int) 1 22 := X
  show V K 4 (mkM am hn ms) 0 [(0, .ref am), (1, .int p1), (2, .int p2)] []
  unfold M_X10_nextForced at hd
  refine v_iconst (v := 0) X dX10_nextForced_0 (by decide) ?_
  refine v_istore_n (lv2 := [(3, .int 0), (0, .ref am), (1, .int p1), (2, .int p2)]) X dX10_nextForced_1 3 rfl (by decide) rfl ?_
  refine v_loc [1, 2, 3, 0] rfl ?_
  refine Tloop_ind hd (fun (s1 : Int32) m => V K 4 (mkM am hn m) 2 [(0, .ref am), (1, .int p1), (2, .int p2), (3, .int s1)] []) (fun s1 ms x m2 hd ih2 ho3 => ?_)
  refine v_iload_n X dX10_nextForced_2 3 3 rfl rfl ?_
  refine v_aload_n X dX10_nextForced_3 0 0 rfl rfl ?_
  refine t_callV X hK hd (ct_X10_doors _ am) (lw_V q1986 q1988 qs57 q120 q1989) ⟨rfl, dn_X10_doors⟩ rfl ⟨by decide, by decide⟩ rfl (Nat.le_of_ble_eq_true rfl) dX10_nextForced_4 (fun v4 ms hd => ?_)
  show V K 4 (mkM am hn ms) 7 [(0, .ref am), (1, .int p1), (2, .int p2), (3, .int s1)] [.int v4, .int s1]
  refine v_icmp_ge (tgt := 44) X dX10_nextForced_7 (by decide) (fun q => ?_) (fun q => ?_)
  · have hd := Tite_t q hd
    refine v_iconst (v := (-1)) X dX10_nextForced_44 (by decide) ?_
    have hd := Tlp_out hd ho3
    exact t_iret X hK hd ho dX10_nextForced_45
  · have hd := Tite_f q hd
    refine v_iload_n X dX10_nextForced_10 3 3 rfl rfl ?_
    refine v_iload_n X dX10_nextForced_11 1 1 rfl rfl ?_
    refine v_icmp_eq (tgt := 38) X dX10_nextForced_12 (by decide) (fun q => ?_) (fun q => ?_)
    · have hd := Tite_t q hd
      refine t_iincL (lv2 := fun v5 => [(3, .int v5), (0, .ref am), (1, .int p1), (2, .int p2)]) X hd dX10_nextForced_38 3 rfl (by decide : Int32.ofInt 1 = 1) (by decide) (fun v5 => rfl) (fun v5 hd => ?_)
      refine v_goto (tgt := 2) X dX10_nextForced_41 (by decide) ?_
      exact v_loc [1, 2, 3, 0] rfl (Tlp_in (P := fun (s1 : Int32) m => V K 4 (mkM am hn m) 2 [(0, .ref am), (1, .int p1), (2, .int p2), (3, .int s1)] []) hd ih2)
    · have hd := Tite_f q hd
      refine v_iload_n X dX10_nextForced_15 2 2 rfl rfl ?_
      refine v_iload_n X dX10_nextForced_16 3 3 rfl rfl ?_
      refine t_callS X hK hd (ct_X10_has _ am p2 s1) (lw_S q1947 q1948 q120 q1949) dn_X10_has rfl ⟨by decide, by decide⟩ rfl (Nat.le_of_ble_eq_true rfl) dX10_nextForced_17 (fun v6 ms hd => ?_)
      show V K 4 (mkM am hn ms) 20 [(0, .ref am), (1, .int p1), (2, .int p2), (3, .int s1)] [.int (b2i v6)]
      refine v_ifZ_ne (tgt := 38) X dX10_nextForced_20 (by decide) (fun q => ?_) (fun q => ?_)
      · have hd := Tcnd_t q hd
        refine t_iincL (lv2 := fun v7 => [(3, .int v7), (0, .ref am), (1, .int p1), (2, .int p2)]) X hd dX10_nextForced_38 3 rfl (by decide : Int32.ofInt 1 = 1) (by decide) (fun v7 => rfl) (fun v7 hd => ?_)
        refine v_goto (tgt := 2) X dX10_nextForced_41 (by decide) ?_
        exact v_loc [1, 2, 3, 0] rfl (Tlp_in (P := fun (s1 : Int32) m => V K 4 (mkM am hn m) 2 [(0, .ref am), (1, .int p1), (2, .int p2), (3, .int s1)] []) hd ih2)
      · have hd := Tcnd_f q hd
        refine v_aload_n X dX10_nextForced_23 0 0 rfl rfl ?_
        refine t_getA (j := 16) X rfl fl_X10_60 dX10_nextForced_24 ?_
        refine v_iload_n X dX10_nextForced_27 3 3 rfl rfl ?_
        refine t_iald (j := 16) X hd rfl dX10_nextForced_28 (fun v8 hd => ?_)
        refine t_callS X hK hd (ct_X10_bits _ am v8) (lw_S q2109 q2110 q120 q2111) dn_X10_bits rfl ⟨by decide, by decide⟩ rfl (Nat.le_of_ble_eq_true rfl) dX10_nextForced_29 (fun v9 ms hd => ?_)
        show V K 4 (mkM am hn ms) 32 [(0, .ref am), (1, .int p1), (2, .int p2), (3, .int s1)] [.int v9]
        refine v_iconst (v := 1) X dX10_nextForced_32 (by decide) ?_
        refine v_icmp_ne (tgt := 38) X dX10_nextForced_33 (by decide) (fun q => ?_) (fun q => ?_)
        · have hd := Tite_f q hd
          refine t_iincL (lv2 := fun v10 => [(3, .int v10), (0, .ref am), (1, .int p1), (2, .int p2)]) X hd dX10_nextForced_38 3 rfl (by decide : Int32.ofInt 1 = 1) (by decide) (fun v10 => rfl) (fun v10 hd => ?_)
          refine v_goto (tgt := 2) X dX10_nextForced_41 (by decide) ?_
          exact v_loc [1, 2, 3, 0] rfl (Tlp_in (P := fun (s1 : Int32) m => V K 4 (mkM am hn m) 2 [(0, .ref am), (1, .int p1), (2, .int p2), (3, .int s1)] []) hd ih2)
        · have hd := Tite_t q hd
          refine v_iload_n X dX10_nextForced_36 3 3 rfl rfl ?_
          have hd := Tlp_out hd ho3
          exact t_iret X hK hd ho dX10_nextForced_37
def dkwX10_forces_10 : List UInt8 := [160, 0, 8, 21, 4, 167, 0, 8, 42, 27, 182, 1, 86, 172]
abbrev dktX10_forces_10 : List UInt8 := dkwX10_forces_10 ++ []
def dkwX10_forces_9 : List UInt8 := [21, 6, 27, 182, 1, 83, 167, 255, 157, 29, 154, 0, 10, 42, 180, 1, 77, 167, 0, 18, 29, 4]
abbrev dktX10_forces_9 : List UInt8 := dkwX10_forces_9 ++ dktX10_forces_10
def dkwX10_forces_8 : List UInt8 := [42, 180, 0, 66, 42, 180, 1, 77, 21, 5, 79, 42, 89, 180, 1, 77, 4, 96, 181, 1, 77, 42, 21, 5]
abbrev dktX10_forces_8 : List UInt8 := dkwX10_forces_8 ++ dktX10_forces_9
def dkwX10_forces_7 : List UInt8 := [132, 6, 1, 167, 255, 238, 21, 4, 4, 21, 5, 120, 128, 54, 4, 42, 180, 0, 63, 21, 5, 21, 6, 79]
abbrev dktX10_forces_7 : List UInt8 := dkwX10_forces_7 ++ dktX10_forces_8
def dkwX10_forces_6 : List UInt8 := [160, 0, 6, 167, 0, 78, 3, 54, 6, 42, 180, 0, 60, 21, 5, 46, 21, 6, 184, 0, 231, 154, 0, 9]
abbrev dktX10_forces_6 : List UInt8 := dkwX10_forces_6 ++ dktX10_forces_7
def dkwX10_forces_5 : List UInt8 := [182, 1, 83, 42, 27, 182, 1, 86, 2, 160, 0, 96, 42, 27, 21, 4, 182, 1, 89, 54, 5, 21, 5, 2]
abbrev dktX10_forces_5 : List UInt8 := dkwX10_forces_5 ++ dktX10_forces_6
def dkwX10_forces_4 : List UInt8 := [167, 255, 222, 42, 3, 181, 1, 77, 42, 42, 182, 0, 211, 181, 1, 80, 3, 54, 4, 42, 27, 28, 27]
abbrev dktX10_forces_4 : List UInt8 := dkwX10_forces_4 ++ dktX10_forces_5
def dkwX10_forces_3 : List UInt8 := [180, 0, 60, 21, 4, 42, 180, 0, 51, 21, 4, 46, 79, 42, 180, 0, 63, 21, 4, 2, 79, 132, 4, 1]
abbrev dktX10_forces_3 : List UInt8 := dkwX10_forces_3 ++ dktX10_forces_4
def dkwX10_forces_2 : List UInt8 := [46, 28, 184, 0, 231, 154, 0, 6, 16, 254, 172, 3, 54, 4, 21, 4, 42, 182, 0, 211, 162, 0, 31, 42]
abbrev dktX10_forces_2 : List UInt8 := dkwX10_forces_2 ++ dktX10_forces_3
def dkwX10_forces_1 : List UInt8 := [153, 0, 12, 29, 3, 5, 184, 0, 187, 154, 0, 6, 16, 254, 172, 42, 182, 1, 36, 42, 180, 0, 51, 27]
abbrev dktX10_forces_1 : List UInt8 := dkwX10_forces_1 ++ dktX10_forces_2
def dkwX10_forces_0 : List UInt8 := [42, 3, 181, 0, 108, 42, 182, 0, 200, 42, 27, 182, 1, 5, 153, 0, 21, 28, 3, 6, 184, 0, 187]
abbrev dktX10_forces_0 : List UInt8 := dkwX10_forces_0 ++ dktX10_forces_1
theorem dksX10_forces_0 : cX10_forces.data.toList.drop 0 = dktX10_forces_0 := by decide +kernel
theorem dksX10_forces_1 : cX10_forces.data.toList.drop 23 = dktX10_forces_1 := dk_seg dksX10_forces_0 23 rfl rfl
theorem dksX10_forces_2 : cX10_forces.data.toList.drop 47 = dktX10_forces_2 := dk_seg dksX10_forces_1 24 rfl rfl
theorem dksX10_forces_3 : cX10_forces.data.toList.drop 71 = dktX10_forces_3 := dk_seg dksX10_forces_2 24 rfl rfl
theorem dksX10_forces_4 : cX10_forces.data.toList.drop 95 = dktX10_forces_4 := dk_seg dksX10_forces_3 24 rfl rfl
theorem dksX10_forces_5 : cX10_forces.data.toList.drop 118 = dktX10_forces_5 := dk_seg dksX10_forces_4 23 rfl rfl
theorem dksX10_forces_6 : cX10_forces.data.toList.drop 142 = dktX10_forces_6 := dk_seg dksX10_forces_5 24 rfl rfl
theorem dksX10_forces_7 : cX10_forces.data.toList.drop 166 = dktX10_forces_7 := dk_seg dksX10_forces_6 24 rfl rfl
theorem dksX10_forces_8 : cX10_forces.data.toList.drop 190 = dktX10_forces_8 := dk_seg dksX10_forces_7 24 rfl rfl
theorem dksX10_forces_9 : cX10_forces.data.toList.drop 214 = dktX10_forces_9 := dk_seg dksX10_forces_8 24 rfl rfl
theorem dksX10_forces_10 : cX10_forces.data.toList.drop 236 = dktX10_forces_10 := dk_seg dksX10_forces_9 22 rfl rfl
theorem dX10_forces_0 : decode cX10_forces 0 = .ok (.aload_n 0, 1) := dk_42 (dk_at dksX10_forces_0 0 rfl rfl)
theorem dX10_forces_1 : decode cX10_forces 1 = .ok (.iconst 0, 1) := dk_3 (dk_at dksX10_forces_0 1 rfl rfl)
theorem dX10_forces_2 : decode cX10_forces 2 = .ok (.putfield 108, 3) := dk_181 0 108 (dk_at dksX10_forces_0 2 rfl rfl)
theorem dX10_forces_5 : decode cX10_forces 5 = .ok (.aload_n 0, 1) := dk_42 (dk_at dksX10_forces_0 5 rfl rfl)
theorem dX10_forces_6 : decode cX10_forces 6 = .ok (.invokevirtual 200, 3) := dk_182 0 200 (dk_at dksX10_forces_0 6 rfl rfl)
theorem dX10_forces_9 : decode cX10_forces 9 = .ok (.aload_n 0, 1) := dk_42 (dk_at dksX10_forces_0 9 rfl rfl)
theorem dX10_forces_10 : decode cX10_forces 10 = .ok (.iload_n 1, 1) := dk_27 (dk_at dksX10_forces_0 10 rfl rfl)
theorem dX10_forces_11 : decode cX10_forces 11 = .ok (.invokevirtual 261, 3) := dk_182 1 5 (dk_at dksX10_forces_0 11 rfl rfl)
theorem dX10_forces_14 : decode cX10_forces 14 = .ok (.ifCond .eq 21, 3) := dk_153 0 21 (dk_at dksX10_forces_0 14 rfl rfl)
theorem dX10_forces_17 : decode cX10_forces 17 = .ok (.iload_n 2, 1) := dk_28 (dk_at dksX10_forces_0 17 rfl rfl)
theorem dX10_forces_18 : decode cX10_forces 18 = .ok (.iconst 0, 1) := dk_3 (dk_at dksX10_forces_0 18 rfl rfl)
theorem dX10_forces_19 : decode cX10_forces 19 = .ok (.iconst 3, 1) := dk_6 (dk_at dksX10_forces_0 19 rfl rfl)
theorem dX10_forces_20 : decode cX10_forces 20 = .ok (.invokestatic 187, 3) := dk_184 0 187 (dk_at dksX10_forces_0 20 rfl rfl)
theorem dX10_forces_23 : decode cX10_forces 23 = .ok (.ifCond .eq 12, 3) := dk_153 0 12 (dk_at dksX10_forces_1 0 rfl rfl)
theorem dX10_forces_26 : decode cX10_forces 26 = .ok (.iload_n 3, 1) := dk_29 (dk_at dksX10_forces_1 3 rfl rfl)
theorem dX10_forces_27 : decode cX10_forces 27 = .ok (.iconst 0, 1) := dk_3 (dk_at dksX10_forces_1 4 rfl rfl)
theorem dX10_forces_28 : decode cX10_forces 28 = .ok (.iconst 2, 1) := dk_5 (dk_at dksX10_forces_1 5 rfl rfl)
theorem dX10_forces_29 : decode cX10_forces 29 = .ok (.invokestatic 187, 3) := dk_184 0 187 (dk_at dksX10_forces_1 6 rfl rfl)
theorem dX10_forces_32 : decode cX10_forces 32 = .ok (.ifCond .ne 6, 3) := dk_154 0 6 (dk_at dksX10_forces_1 9 rfl rfl)
theorem dX10_forces_35 : decode cX10_forces 35 = .ok (.bipush (-2), 2) := dk_16 254 (dk_at dksX10_forces_1 12 rfl rfl)
theorem dX10_forces_37 : decode cX10_forces 37 = .ok (.ireturn, 1) := dk_172 (dk_at dksX10_forces_1 14 rfl rfl)
theorem dX10_forces_38 : decode cX10_forces 38 = .ok (.aload_n 0, 1) := dk_42 (dk_at dksX10_forces_1 15 rfl rfl)
theorem dX10_forces_39 : decode cX10_forces 39 = .ok (.invokevirtual 292, 3) := dk_182 1 36 (dk_at dksX10_forces_1 16 rfl rfl)
theorem dX10_forces_42 : decode cX10_forces 42 = .ok (.aload_n 0, 1) := dk_42 (dk_at dksX10_forces_1 19 rfl rfl)
theorem dX10_forces_43 : decode cX10_forces 43 = .ok (.getfield 51, 3) := dk_180 0 51 (dk_at dksX10_forces_1 20 rfl rfl)
theorem dX10_forces_46 : decode cX10_forces 46 = .ok (.iload_n 1, 1) := dk_27 (dk_at dksX10_forces_1 23 rfl rfl)
theorem dX10_forces_47 : decode cX10_forces 47 = .ok (.iaload, 1) := dk_46 (dk_at dksX10_forces_2 0 rfl rfl)
theorem dX10_forces_48 : decode cX10_forces 48 = .ok (.iload_n 2, 1) := dk_28 (dk_at dksX10_forces_2 1 rfl rfl)
theorem dX10_forces_49 : decode cX10_forces 49 = .ok (.invokestatic 231, 3) := dk_184 0 231 (dk_at dksX10_forces_2 2 rfl rfl)
theorem dX10_forces_52 : decode cX10_forces 52 = .ok (.ifCond .ne 6, 3) := dk_154 0 6 (dk_at dksX10_forces_2 5 rfl rfl)
theorem dX10_forces_55 : decode cX10_forces 55 = .ok (.bipush (-2), 2) := dk_16 254 (dk_at dksX10_forces_2 8 rfl rfl)
theorem dX10_forces_57 : decode cX10_forces 57 = .ok (.ireturn, 1) := dk_172 (dk_at dksX10_forces_2 10 rfl rfl)
theorem dX10_forces_58 : decode cX10_forces 58 = .ok (.iconst 0, 1) := dk_3 (dk_at dksX10_forces_2 11 rfl rfl)
theorem dX10_forces_59 : decode cX10_forces 59 = .ok (.istore 4, 2) := dk_54 4 (dk_at dksX10_forces_2 12 rfl rfl)
theorem dX10_forces_61 : decode cX10_forces 61 = .ok (.iload 4, 2) := dk_21 4 (dk_at dksX10_forces_2 14 rfl rfl)
theorem dX10_forces_63 : decode cX10_forces 63 = .ok (.aload_n 0, 1) := dk_42 (dk_at dksX10_forces_2 16 rfl rfl)
theorem dX10_forces_64 : decode cX10_forces 64 = .ok (.invokevirtual 211, 3) := dk_182 0 211 (dk_at dksX10_forces_2 17 rfl rfl)
theorem dX10_forces_67 : decode cX10_forces 67 = .ok (.if_icmp .ge 31, 3) := dk_162 0 31 (dk_at dksX10_forces_2 20 rfl rfl)
theorem dX10_forces_70 : decode cX10_forces 70 = .ok (.aload_n 0, 1) := dk_42 (dk_at dksX10_forces_2 23 rfl rfl)
theorem dX10_forces_71 : decode cX10_forces 71 = .ok (.getfield 60, 3) := dk_180 0 60 (dk_at dksX10_forces_3 0 rfl rfl)
theorem dX10_forces_74 : decode cX10_forces 74 = .ok (.iload 4, 2) := dk_21 4 (dk_at dksX10_forces_3 3 rfl rfl)
theorem dX10_forces_76 : decode cX10_forces 76 = .ok (.aload_n 0, 1) := dk_42 (dk_at dksX10_forces_3 5 rfl rfl)
theorem dX10_forces_77 : decode cX10_forces 77 = .ok (.getfield 51, 3) := dk_180 0 51 (dk_at dksX10_forces_3 6 rfl rfl)
theorem dX10_forces_80 : decode cX10_forces 80 = .ok (.iload 4, 2) := dk_21 4 (dk_at dksX10_forces_3 9 rfl rfl)
theorem dX10_forces_82 : decode cX10_forces 82 = .ok (.iaload, 1) := dk_46 (dk_at dksX10_forces_3 11 rfl rfl)
theorem dX10_forces_83 : decode cX10_forces 83 = .ok (.iastore, 1) := dk_79 (dk_at dksX10_forces_3 12 rfl rfl)
theorem dX10_forces_84 : decode cX10_forces 84 = .ok (.aload_n 0, 1) := dk_42 (dk_at dksX10_forces_3 13 rfl rfl)
theorem dX10_forces_85 : decode cX10_forces 85 = .ok (.getfield 63, 3) := dk_180 0 63 (dk_at dksX10_forces_3 14 rfl rfl)
theorem dX10_forces_88 : decode cX10_forces 88 = .ok (.iload 4, 2) := dk_21 4 (dk_at dksX10_forces_3 17 rfl rfl)
theorem dX10_forces_90 : decode cX10_forces 90 = .ok (.iconst (-1), 1) := dk_2 (dk_at dksX10_forces_3 19 rfl rfl)
theorem dX10_forces_91 : decode cX10_forces 91 = .ok (.iastore, 1) := dk_79 (dk_at dksX10_forces_3 20 rfl rfl)
theorem dX10_forces_92 : decode cX10_forces 92 = .ok (.iinc 4 1, 3) := dk_132 4 1 (dk_at dksX10_forces_3 21 rfl rfl)
theorem dX10_forces_95 : decode cX10_forces 95 = .ok (.goto (-34), 3) := dk_167 255 222 (dk_at dksX10_forces_4 0 rfl rfl)
theorem dX10_forces_98 : decode cX10_forces 98 = .ok (.aload_n 0, 1) := dk_42 (dk_at dksX10_forces_4 3 rfl rfl)
theorem dX10_forces_99 : decode cX10_forces 99 = .ok (.iconst 0, 1) := dk_3 (dk_at dksX10_forces_4 4 rfl rfl)
theorem dX10_forces_100 : decode cX10_forces 100 = .ok (.putfield 333, 3) := dk_181 1 77 (dk_at dksX10_forces_4 5 rfl rfl)
theorem dX10_forces_103 : decode cX10_forces 103 = .ok (.aload_n 0, 1) := dk_42 (dk_at dksX10_forces_4 8 rfl rfl)
theorem dX10_forces_104 : decode cX10_forces 104 = .ok (.aload_n 0, 1) := dk_42 (dk_at dksX10_forces_4 9 rfl rfl)
theorem dX10_forces_105 : decode cX10_forces 105 = .ok (.invokevirtual 211, 3) := dk_182 0 211 (dk_at dksX10_forces_4 10 rfl rfl)
theorem dX10_forces_108 : decode cX10_forces 108 = .ok (.putfield 336, 3) := dk_181 1 80 (dk_at dksX10_forces_4 13 rfl rfl)
theorem dX10_forces_111 : decode cX10_forces 111 = .ok (.iconst 0, 1) := dk_3 (dk_at dksX10_forces_4 16 rfl rfl)
theorem dX10_forces_112 : decode cX10_forces 112 = .ok (.istore 4, 2) := dk_54 4 (dk_at dksX10_forces_4 17 rfl rfl)
theorem dX10_forces_114 : decode cX10_forces 114 = .ok (.aload_n 0, 1) := dk_42 (dk_at dksX10_forces_4 19 rfl rfl)
theorem dX10_forces_115 : decode cX10_forces 115 = .ok (.iload_n 1, 1) := dk_27 (dk_at dksX10_forces_4 20 rfl rfl)
theorem dX10_forces_116 : decode cX10_forces 116 = .ok (.iload_n 2, 1) := dk_28 (dk_at dksX10_forces_4 21 rfl rfl)
theorem dX10_forces_117 : decode cX10_forces 117 = .ok (.iload_n 1, 1) := dk_27 (dk_at dksX10_forces_4 22 rfl rfl)
theorem dX10_forces_118 : decode cX10_forces 118 = .ok (.invokevirtual 339, 3) := dk_182 1 83 (dk_at dksX10_forces_5 0 rfl rfl)
theorem dX10_forces_121 : decode cX10_forces 121 = .ok (.aload_n 0, 1) := dk_42 (dk_at dksX10_forces_5 3 rfl rfl)
theorem dX10_forces_122 : decode cX10_forces 122 = .ok (.iload_n 1, 1) := dk_27 (dk_at dksX10_forces_5 4 rfl rfl)
theorem dX10_forces_123 : decode cX10_forces 123 = .ok (.invokevirtual 342, 3) := dk_182 1 86 (dk_at dksX10_forces_5 5 rfl rfl)
theorem dX10_forces_126 : decode cX10_forces 126 = .ok (.iconst (-1), 1) := dk_2 (dk_at dksX10_forces_5 8 rfl rfl)
theorem dX10_forces_127 : decode cX10_forces 127 = .ok (.if_icmp .ne 96, 3) := dk_160 0 96 (dk_at dksX10_forces_5 9 rfl rfl)
theorem dX10_forces_130 : decode cX10_forces 130 = .ok (.aload_n 0, 1) := dk_42 (dk_at dksX10_forces_5 12 rfl rfl)
theorem dX10_forces_131 : decode cX10_forces 131 = .ok (.iload_n 1, 1) := dk_27 (dk_at dksX10_forces_5 13 rfl rfl)
theorem dX10_forces_132 : decode cX10_forces 132 = .ok (.iload 4, 2) := dk_21 4 (dk_at dksX10_forces_5 14 rfl rfl)
theorem dX10_forces_134 : decode cX10_forces 134 = .ok (.invokevirtual 345, 3) := dk_182 1 89 (dk_at dksX10_forces_5 16 rfl rfl)
theorem dX10_forces_137 : decode cX10_forces 137 = .ok (.istore 5, 2) := dk_54 5 (dk_at dksX10_forces_5 19 rfl rfl)
theorem dX10_forces_139 : decode cX10_forces 139 = .ok (.iload 5, 2) := dk_21 5 (dk_at dksX10_forces_5 21 rfl rfl)
theorem dX10_forces_141 : decode cX10_forces 141 = .ok (.iconst (-1), 1) := dk_2 (dk_at dksX10_forces_5 23 rfl rfl)
theorem dX10_forces_142 : decode cX10_forces 142 = .ok (.if_icmp .ne 6, 3) := dk_160 0 6 (dk_at dksX10_forces_6 0 rfl rfl)
theorem dX10_forces_145 : decode cX10_forces 145 = .ok (.goto 78, 3) := dk_167 0 78 (dk_at dksX10_forces_6 3 rfl rfl)
theorem dX10_forces_148 : decode cX10_forces 148 = .ok (.iconst 0, 1) := dk_3 (dk_at dksX10_forces_6 6 rfl rfl)
theorem dX10_forces_149 : decode cX10_forces 149 = .ok (.istore 6, 2) := dk_54 6 (dk_at dksX10_forces_6 7 rfl rfl)
theorem dX10_forces_151 : decode cX10_forces 151 = .ok (.aload_n 0, 1) := dk_42 (dk_at dksX10_forces_6 9 rfl rfl)
theorem dX10_forces_152 : decode cX10_forces 152 = .ok (.getfield 60, 3) := dk_180 0 60 (dk_at dksX10_forces_6 10 rfl rfl)
theorem dX10_forces_155 : decode cX10_forces 155 = .ok (.iload 5, 2) := dk_21 5 (dk_at dksX10_forces_6 13 rfl rfl)
theorem dX10_forces_157 : decode cX10_forces 157 = .ok (.iaload, 1) := dk_46 (dk_at dksX10_forces_6 15 rfl rfl)
theorem dX10_forces_158 : decode cX10_forces 158 = .ok (.iload 6, 2) := dk_21 6 (dk_at dksX10_forces_6 16 rfl rfl)
theorem dX10_forces_160 : decode cX10_forces 160 = .ok (.invokestatic 231, 3) := dk_184 0 231 (dk_at dksX10_forces_6 18 rfl rfl)
theorem dX10_forces_163 : decode cX10_forces 163 = .ok (.ifCond .ne 9, 3) := dk_154 0 9 (dk_at dksX10_forces_6 21 rfl rfl)
theorem dX10_forces_166 : decode cX10_forces 166 = .ok (.iinc 6 1, 3) := dk_132 6 1 (dk_at dksX10_forces_7 0 rfl rfl)
theorem dX10_forces_169 : decode cX10_forces 169 = .ok (.goto (-18), 3) := dk_167 255 238 (dk_at dksX10_forces_7 3 rfl rfl)
theorem dX10_forces_172 : decode cX10_forces 172 = .ok (.iload 4, 2) := dk_21 4 (dk_at dksX10_forces_7 6 rfl rfl)
theorem dX10_forces_174 : decode cX10_forces 174 = .ok (.iconst 1, 1) := dk_4 (dk_at dksX10_forces_7 8 rfl rfl)
theorem dX10_forces_175 : decode cX10_forces 175 = .ok (.iload 5, 2) := dk_21 5 (dk_at dksX10_forces_7 9 rfl rfl)
theorem dX10_forces_177 : decode cX10_forces 177 = .ok (.ishl, 1) := dk_120 (dk_at dksX10_forces_7 11 rfl rfl)
theorem dX10_forces_178 : decode cX10_forces 178 = .ok (.ior, 1) := dk_128 (dk_at dksX10_forces_7 12 rfl rfl)
theorem dX10_forces_179 : decode cX10_forces 179 = .ok (.istore 4, 2) := dk_54 4 (dk_at dksX10_forces_7 13 rfl rfl)
theorem dX10_forces_181 : decode cX10_forces 181 = .ok (.aload_n 0, 1) := dk_42 (dk_at dksX10_forces_7 15 rfl rfl)
theorem dX10_forces_182 : decode cX10_forces 182 = .ok (.getfield 63, 3) := dk_180 0 63 (dk_at dksX10_forces_7 16 rfl rfl)
theorem dX10_forces_185 : decode cX10_forces 185 = .ok (.iload 5, 2) := dk_21 5 (dk_at dksX10_forces_7 19 rfl rfl)
theorem dX10_forces_187 : decode cX10_forces 187 = .ok (.iload 6, 2) := dk_21 6 (dk_at dksX10_forces_7 21 rfl rfl)
theorem dX10_forces_189 : decode cX10_forces 189 = .ok (.iastore, 1) := dk_79 (dk_at dksX10_forces_7 23 rfl rfl)
theorem dX10_forces_190 : decode cX10_forces 190 = .ok (.aload_n 0, 1) := dk_42 (dk_at dksX10_forces_8 0 rfl rfl)
theorem dX10_forces_191 : decode cX10_forces 191 = .ok (.getfield 66, 3) := dk_180 0 66 (dk_at dksX10_forces_8 1 rfl rfl)
theorem dX10_forces_194 : decode cX10_forces 194 = .ok (.aload_n 0, 1) := dk_42 (dk_at dksX10_forces_8 4 rfl rfl)
theorem dX10_forces_195 : decode cX10_forces 195 = .ok (.getfield 333, 3) := dk_180 1 77 (dk_at dksX10_forces_8 5 rfl rfl)
theorem dX10_forces_198 : decode cX10_forces 198 = .ok (.iload 5, 2) := dk_21 5 (dk_at dksX10_forces_8 8 rfl rfl)
theorem dX10_forces_200 : decode cX10_forces 200 = .ok (.iastore, 1) := dk_79 (dk_at dksX10_forces_8 10 rfl rfl)
theorem dX10_forces_201 : decode cX10_forces 201 = .ok (.aload_n 0, 1) := dk_42 (dk_at dksX10_forces_8 11 rfl rfl)
theorem dX10_forces_202 : decode cX10_forces 202 = .ok (.dup, 1) := dk_89 (dk_at dksX10_forces_8 12 rfl rfl)
theorem dX10_forces_203 : decode cX10_forces 203 = .ok (.getfield 333, 3) := dk_180 1 77 (dk_at dksX10_forces_8 13 rfl rfl)
theorem dX10_forces_206 : decode cX10_forces 206 = .ok (.iconst 1, 1) := dk_4 (dk_at dksX10_forces_8 16 rfl rfl)
theorem dX10_forces_207 : decode cX10_forces 207 = .ok (.iadd, 1) := dk_96 (dk_at dksX10_forces_8 17 rfl rfl)
theorem dX10_forces_208 : decode cX10_forces 208 = .ok (.putfield 333, 3) := dk_181 1 77 (dk_at dksX10_forces_8 18 rfl rfl)
theorem dX10_forces_211 : decode cX10_forces 211 = .ok (.aload_n 0, 1) := dk_42 (dk_at dksX10_forces_8 21 rfl rfl)
theorem dX10_forces_212 : decode cX10_forces 212 = .ok (.iload 5, 2) := dk_21 5 (dk_at dksX10_forces_8 22 rfl rfl)
theorem dX10_forces_214 : decode cX10_forces 214 = .ok (.iload 6, 2) := dk_21 6 (dk_at dksX10_forces_9 0 rfl rfl)
theorem dX10_forces_216 : decode cX10_forces 216 = .ok (.iload_n 1, 1) := dk_27 (dk_at dksX10_forces_9 2 rfl rfl)
theorem dX10_forces_217 : decode cX10_forces 217 = .ok (.invokevirtual 339, 3) := dk_182 1 83 (dk_at dksX10_forces_9 3 rfl rfl)
theorem dX10_forces_220 : decode cX10_forces 220 = .ok (.goto (-99), 3) := dk_167 255 157 (dk_at dksX10_forces_9 6 rfl rfl)
theorem dX10_forces_223 : decode cX10_forces 223 = .ok (.iload_n 3, 1) := dk_29 (dk_at dksX10_forces_9 9 rfl rfl)
theorem dX10_forces_224 : decode cX10_forces 224 = .ok (.ifCond .ne 10, 3) := dk_154 0 10 (dk_at dksX10_forces_9 10 rfl rfl)
theorem dX10_forces_227 : decode cX10_forces 227 = .ok (.aload_n 0, 1) := dk_42 (dk_at dksX10_forces_9 13 rfl rfl)
theorem dX10_forces_228 : decode cX10_forces 228 = .ok (.getfield 333, 3) := dk_180 1 77 (dk_at dksX10_forces_9 14 rfl rfl)
theorem dX10_forces_231 : decode cX10_forces 231 = .ok (.goto 18, 3) := dk_167 0 18 (dk_at dksX10_forces_9 17 rfl rfl)
theorem dX10_forces_234 : decode cX10_forces 234 = .ok (.iload_n 3, 1) := dk_29 (dk_at dksX10_forces_9 20 rfl rfl)
theorem dX10_forces_235 : decode cX10_forces 235 = .ok (.iconst 1, 1) := dk_4 (dk_at dksX10_forces_9 21 rfl rfl)
theorem dX10_forces_236 : decode cX10_forces 236 = .ok (.if_icmp .ne 8, 3) := dk_160 0 8 (dk_at dksX10_forces_10 0 rfl rfl)
theorem dX10_forces_239 : decode cX10_forces 239 = .ok (.iload 4, 2) := dk_21 4 (dk_at dksX10_forces_10 3 rfl rfl)
theorem dX10_forces_241 : decode cX10_forces 241 = .ok (.goto 8, 3) := dk_167 0 8 (dk_at dksX10_forces_10 5 rfl rfl)
theorem dX10_forces_244 : decode cX10_forces 244 = .ok (.aload_n 0, 1) := dk_42 (dk_at dksX10_forces_10 8 rfl rfl)
theorem dX10_forces_245 : decode cX10_forces 245 = .ok (.iload_n 1, 1) := dk_27 (dk_at dksX10_forces_10 9 rfl rfl)
theorem dX10_forces_246 : decode cX10_forces 246 = .ok (.invokevirtual 342, 3) := dk_182 1 86 (dk_at dksX10_forces_10 10 rfl rfl)
theorem dX10_forces_249 : decode cX10_forces 249 = .ok (.ireturn, 1) := dk_172 (dk_at dksX10_forces_10 13 rfl rfl)
theorem fl_X10_63 : gFl "BitingDoorsModel" 63 [8] 35 := by
  intro args s hts hN ci hc
  simp only [List.mem_cons, List.not_mem_nil, or_false] at hc
  subst hc
  exact ⟨RX10, TX10, 64, "BitingDoorsModel", gCl_X10, in_X10, by decide, Or.inl (hts _ q1685), fun _ h => h⟩
theorem fp_X10_333 {nm : String} : gFp "BitingDoorsModel" nm 333 [8] 37 .int := by
  intro args s hts hN ci hc
  simp only [List.mem_cons, List.not_mem_nil, or_false] at hc
  subst hc
  exact ⟨RX10, TX10, 64, "BitingDoorsModel", gCl_X10, in_X10, by decide, Or.inl ⟨rfl, Or.inl (hts _ q1687)⟩, fun _ h => h, rfl, fun D tys hK => gap_X10 hts hK⟩
theorem fp_X10_336 {nm : String} : gFp "BitingDoorsModel" nm 336 [8] 38 .int := by
  intro args s hts hN ci hc
  simp only [List.mem_cons, List.not_mem_nil, or_false] at hc
  subst hc
  exact ⟨RX10, TX10, 64, "BitingDoorsModel", gCl_X10, in_X10, by decide, Or.inl ⟨rfl, Or.inl (hts _ q1688)⟩, fun _ h => h, rfl, fun D tys hK => gap_X10 hts hK⟩
theorem dn_X10_forces : yX10_forces.cls ≠ "java/lang/invoke/MethodHandle" ∧ yX10_forces.cls ≠ "java/lang/invoke/VarHandle" ∧ (parseMethodDescriptor yX10_forces.desc).map (fun d => d.parameters.length) = some 3 := by decide +kernel
noncomputable def M_X10_forces (p1 : Int32) (p2 : Int32) (p3 : Int32) : TM Int32 := TM.bind (sI 0 0) (fun _ => TM.bind (M_X10_lay) (fun v1 => TM.bind (M_X10_isDoor p1) (fun v2 => cond v2 (TM.bind (M_X10_isIn p2 0 3) (fun v3 => cond v3 (TM.bind (M_X10_isIn p3 0 2) (fun v4 => cond v4 (TM.bind (M_X10_laySwept) (fun v5 => TM.bind (tA 29 10 p1) (fun v6 => TM.bind (M_X10_has v6 p2) (fun v7 => cond v7 (TM.bind (TM.loop (S := Int32) (E := Unit) (fun s8 => TM.bind (M_X10_doors) (fun v12 => if v12 ≤ s8 then TM.pure (Sum.inr ()) else TM.bind (tA 29 10 s8) (fun v13 => TM.bind (sA 34 10 s8 v13) (fun _ => TM.bind (sA 35 10 s8 (-1)) (fun _ => TM.lv (s8 + 1) (fun v14 => TM.pure (Sum.inl v14))))))) 0) (fun e11 => TM.bind (sI 37 0) (fun _ => TM.bind (M_X10_doors) (fun v15 => TM.bind (sI 38 v15) (fun _ => TM.bind (M_X10_drop p1 p2 p1) (fun v16 => TM.bind (TM.loop (S := Int32) (E := Int32) (fun s17 => TM.bind (M_X10_deadOne p1) (fun v21 => if v21 = (-1) then TM.bind (M_X10_nextForced p1 s17) (fun v22 => if v22 = (-1) then TM.pure (Sum.inr s17) else TM.bind (TM.loop (S := Int32) (E := Int32) (fun s23 => TM.bind (tA 34 10 v22) (fun v27 => TM.bind (M_X10_has v27 s23) (fun v28 => cond v28 (TM.pure (Sum.inr s23)) (TM.lv (s23 + 1) (fun v29 => TM.pure (Sum.inl v29)))))) 0) (fun e26 => TM.lv (s17 ||| (1 <<< (v22 &&& 31))) (fun v30 => TM.bind (sA 35 10 v22 e26) (fun _ => TM.bind (tI 37) (fun v31 => TM.bind (sA 36 10 v31 v22) (fun _ => TM.bind (tI 37) (fun v32 => TM.bind (sI 37 (v32 + 1)) (fun _ => TM.bind (M_X10_drop v22 e26 p1) (fun v33 => TM.pure (Sum.inl v30)))))))))) else TM.pure (Sum.inr s17))) 0) (fun e20 => TM.bind ((if p3 = 0 then TM.bind (tI 37) (fun v36 => TM.pure v36) else if p3 = 1 then TM.pure e20 else TM.bind (M_X10_deadOne p1) (fun v35 => TM.pure v35) : TM (Int32))) (fun u34 => TM.pure u34)))))))) (TM.pure (-2)))))) (TM.pure (-2)))) (TM.pure (-2)))) (TM.pure (-2)))))
set_option maxHeartbeats 4000000 in
theorem ct_X10_forces (G : gG) (am : Nat) (p1 : Int32) (p2 : Int32) (p3 : Int32) : gCtM G am yX10_forces cX10_forces 7 (some .int) 5 127 [.ref am, .int p1, .int p2, .int p3] (M_X10_forces p1 p2 p3) (fun x : Int32 => some (.int x)) := by
  refine gCtM.of (by decide) (Nat.le_of_ble_eq_true rfl) (fun K hn ms ms' r hG X hK hd ho => ?_)
  subst hG
  have X : gX K cX10_forces 7 "BitingDoorsModel" "forces" (some .int) 5 127 := X
  show V K 7 (mkM am hn ms) 0 [(0, .ref am), (1, .int p1), (2, .int p2), (3, .int p3)] []
  unfold M_X10_forces at hd
  refine v_aload_n X dX10_forces_0 0 0 rfl rfl ?_
  refine v_iconst (v := 0) X dX10_forces_1 (by decide) ?_
  refine t_putI X hd rfl fp_X10_108 dX10_forces_2 (fun ms hd => ?_)
  refine v_aload_n X dX10_forces_5 0 0 rfl rfl ?_
  refine t_callV X hK hd (ct_X10_lay _ am) (lw_V q1868 q1870 qs37 q120 q1871) ⟨rfl, dn_X10_lay⟩ rfl ⟨by decide, by decide⟩ rfl (Nat.le_of_ble_eq_true rfl) dX10_forces_6 (fun v1 ms hd => ?_)
  show V K 7 (mkM am hn ms) 9 [(0, .ref am), (1, .int p1), (2, .int p2), (3, .int p3)] []
  refine v_aload_n X dX10_forces_9 0 0 rfl rfl ?_
  refine v_iload_n X dX10_forces_10 1 1 rfl rfl ?_
  refine t_callV X hK hd (ct_X10_isDoor _ am p1) (lw_V q1982 q1984 qs56 q120 q1985) ⟨rfl, dn_X10_isDoor⟩ rfl ⟨by decide, by decide⟩ rfl (Nat.le_of_ble_eq_true rfl) dX10_forces_11 (fun v2 ms hd => ?_)
  show V K 7 (mkM am hn ms) 14 [(0, .ref am), (1, .int p1), (2, .int p2), (3, .int p3)] [.int (b2i v2)]
  refine v_ifZ_eq (tgt := 35) X dX10_forces_14 (by decide) (fun q => ?_) (fun q => ?_)
  · have hd := Tcnd_f q hd
    refine v_bipush (v := (-2)) X dX10_forces_35 (by decide) ?_
    exact t_iret X hK hd ho dX10_forces_37
  · have hd := Tcnd_t q hd
    refine v_iload_n X dX10_forces_17 2 2 rfl rfl ?_
    refine v_iconst (v := 0) X dX10_forces_18 (by decide) ?_
    refine v_iconst (v := 3) X dX10_forces_19 (by decide) ?_
    refine t_callS X hK hd (ct_X10_isIn _ am p2 0 3) (lw_S q1940 q1941 q120 q1942) dn_X10_isIn rfl ⟨by decide, by decide⟩ rfl (Nat.le_of_ble_eq_true rfl) dX10_forces_20 (fun v3 ms hd => ?_)
    show V K 7 (mkM am hn ms) 23 [(0, .ref am), (1, .int p1), (2, .int p2), (3, .int p3)] [.int (b2i v3)]
    refine v_ifZ_eq (tgt := 35) X dX10_forces_23 (by decide) (fun q => ?_) (fun q => ?_)
    · have hd := Tcnd_f q hd
      refine v_bipush (v := (-2)) X dX10_forces_35 (by decide) ?_
      exact t_iret X hK hd ho dX10_forces_37
    · have hd := Tcnd_t q hd
      refine v_iload_n X dX10_forces_26 3 3 rfl rfl ?_
      refine v_iconst (v := 0) X dX10_forces_27 (by decide) ?_
      refine v_iconst (v := 2) X dX10_forces_28 (by decide) ?_
      refine t_callS X hK hd (ct_X10_isIn _ am p3 0 2) (lw_S q1940 q1941 q120 q1942) dn_X10_isIn rfl ⟨by decide, by decide⟩ rfl (Nat.le_of_ble_eq_true rfl) dX10_forces_29 (fun v4 ms hd => ?_)
      show V K 7 (mkM am hn ms) 32 [(0, .ref am), (1, .int p1), (2, .int p2), (3, .int p3)] [.int (b2i v4)]
      refine v_ifZ_ne (tgt := 38) X dX10_forces_32 (by decide) (fun q => ?_) (fun q => ?_)
      · have hd := Tcnd_t q hd
        refine v_aload_n X dX10_forces_38 0 0 rfl rfl ?_
        refine t_callV X hK hd (ct_X10_laySwept _ am) (lw_V q2030 q2032 qs64 q120 q2033) ⟨rfl, dn_X10_laySwept⟩ rfl ⟨by decide, by decide⟩ rfl (Nat.le_of_ble_eq_true rfl) dX10_forces_39 (fun v5 ms hd => ?_)
        show V K 7 (mkM am hn ms) 42 [(0, .ref am), (1, .int p1), (2, .int p2), (3, .int p3)] []
        refine v_aload_n X dX10_forces_42 0 0 rfl rfl ?_
        refine t_getA (j := 13) X rfl fl_X10_51 dX10_forces_43 ?_
        refine v_iload_n X dX10_forces_46 1 1 rfl rfl ?_
        refine t_iald (j := 13) X hd rfl dX10_forces_47 (fun v6 hd => ?_)
        refine v_iload_n X dX10_forces_48 2 2 rfl rfl ?_
        refine t_callS X hK hd (ct_X10_has _ am v6 p2) (lw_S q1947 q1948 q120 q1949) dn_X10_has rfl ⟨by decide, by decide⟩ rfl (Nat.le_of_ble_eq_true rfl) dX10_forces_49 (fun v7 ms hd => ?_)
        show V K 7 (mkM am hn ms) 52 [(0, .ref am), (1, .int p1), (2, .int p2), (3, .int p3)] [.int (b2i v7)]
        refine v_ifZ_ne (tgt := 58) X dX10_forces_52 (by decide) (fun q => ?_) (fun q => ?_)
        · have hd := Tcnd_t q hd
          refine v_iconst (v := 0) X dX10_forces_58 (by decide) ?_
          refine v_istore (lv2 := [(4, .int 0), (0, .ref am), (1, .int p1), (2, .int p2), (3, .int p3)]) X dX10_forces_59 (by decide) rfl ?_
          obtain ⟨e11, m1, hd, hd2⟩ := TM.bind_some hd
          have KX : V K 7 (mkM am hn m1) 98 [(0, .ref am), (1, .int p1), (2, .int p2), (3, .int p3)] [] := by
            clear hd
            have hd := hd2
            refine v_aload_n X dX10_forces_98 0 0 rfl rfl ?_
            refine v_iconst (v := 0) X dX10_forces_99 (by decide) ?_
            refine t_putI X hd rfl fp_X10_333 dX10_forces_100 (fun ms hd => ?_)
            refine v_aload_n X dX10_forces_103 0 0 rfl rfl ?_
            refine v_aload_n X dX10_forces_104 0 0 rfl rfl ?_
            refine t_callV X hK hd (ct_X10_doors _ am) (lw_V q1986 q1988 qs57 q120 q1989) ⟨rfl, dn_X10_doors⟩ rfl ⟨by decide, by decide⟩ rfl (Nat.le_of_ble_eq_true rfl) dX10_forces_105 (fun v15 ms hd => ?_)
            show V K 7 (mkM am hn ms) 108 [(0, .ref am), (1, .int p1), (2, .int p2), (3, .int p3)] [.int v15, .ref am]
            refine t_putI X hd rfl fp_X10_336 dX10_forces_108 (fun ms hd => ?_)
            refine v_iconst (v := 0) X dX10_forces_111 (by decide) ?_
            refine v_istore (lv2 := [(4, .int 0), (0, .ref am), (1, .int p1), (2, .int p2), (3, .int p3)]) X dX10_forces_112 (by decide) rfl ?_
            refine v_aload_n X dX10_forces_114 1 0 rfl rfl ?_
            refine v_iload_n X dX10_forces_115 2 1 rfl rfl ?_
            refine v_iload_n X dX10_forces_116 3 2 rfl rfl ?_
            refine v_iload_n X dX10_forces_117 2 1 rfl rfl ?_
            refine t_callV X hK hd (ct_X10_drop _ am p1 p2 p1) (lw_V q2097 q2099 qs73 q120 q2100) ⟨rfl, dn_X10_drop⟩ rfl ⟨by decide, by decide⟩ rfl (Nat.le_of_ble_eq_true rfl) dX10_forces_118 (fun v16 ms hd => ?_)
            show V K 7 (mkM am hn ms) 121 [(4, .int 0), (0, .ref am), (1, .int p1), (2, .int p2), (3, .int p3)] []
            obtain ⟨e20, m1, hd, hd2⟩ := TM.bind_some hd
            have KX : V K 7 (mkM am hn m1) 223 [(0, .ref am), (1, .int p1), (3, .int p3), (4, .int e20)] [] := by
              clear hd
              have hd := hd2
              refine v_iload_n X dX10_forces_223 2 3 rfl rfl ?_
              obtain ⟨u34, m1, hd, hd2⟩ := TM.bind_some hd
              have KJ : V K 7 (mkM am hn m1) 249 [] [.int u34] := by
                clear hd
                have hd := hd2
                exact t_iret X hK hd ho dX10_forces_249
              clear hd2
              refine v_if_ne (tgt := 234) X dX10_forces_224 (by decide) (fun q => ?_) (fun q => ?_)
              · have hd := Tite_f q hd
                refine v_iload_n X dX10_forces_234 2 3 rfl rfl ?_
                refine v_iconst (v := 1) X dX10_forces_235 (by decide) ?_
                refine v_icmp_ne (tgt := 244) X dX10_forces_236 (by decide) (fun q => ?_) (fun q => ?_)
                · have hd := Tite_f q hd
                  refine v_aload_n X dX10_forces_244 0 0 rfl rfl ?_
                  refine v_iload_n X dX10_forces_245 1 1 rfl rfl ?_
                  refine t_callV X hK hd (ct_X10_deadOne _ am p1) (lw_V q2101 q2103 qs74 q120 q2104) ⟨rfl, dn_X10_deadOne⟩ rfl ⟨by decide, by decide⟩ rfl (Nat.le_of_ble_eq_true rfl) dX10_forces_246 (fun v35 ms hd => ?_)
                  show V K 7 (mkM am hn ms) 249 [(0, .ref am), (1, .int p1), (3, .int p3), (4, .int e20)] [.int v35]
                  exact v_loc [] rfl (t_at (P := fun (u34 : Int32) m => V K 7 (mkM am hn m) 249 [] [.int u34]) hd KJ)
                · have hd := Tite_t q hd
                  refine v_iload X dX10_forces_239 3 rfl ?_
                  refine v_goto (tgt := 249) X dX10_forces_241 (by decide) ?_
                  exact v_loc [] rfl (t_at (P := fun (u34 : Int32) m => V K 7 (mkM am hn m) 249 [] [.int u34]) hd KJ)
              · have hd := Tite_t q hd
                refine v_aload_n X dX10_forces_227 0 0 rfl rfl ?_
                refine t_getI X hd rfl fl_X10_333 dX10_forces_228 (fun v36 hd => ?_)
                refine v_goto (tgt := 249) X dX10_forces_231 (by decide) ?_
                exact v_loc [] rfl (t_at (P := fun (u34 : Int32) m => V K 7 (mkM am hn m) 249 [] [.int u34]) hd KJ)
            clear hd2
            refine v_loc [1, 2, 4, 0] rfl ?_
            refine Tloop_ind hd (fun (s17 : Int32) m => V K 7 (mkM am hn m) 121 [(0, .ref am), (1, .int p1), (3, .int p3), (4, .int s17)] []) (fun s17 ms x m2 hd ih18 ho19 => ?_)
            refine v_aload_n X dX10_forces_121 0 0 rfl rfl ?_
            refine v_iload_n X dX10_forces_122 1 1 rfl rfl ?_
            refine t_callV X hK hd (ct_X10_deadOne _ am p1) (lw_V q2101 q2103 qs74 q120 q2104) ⟨rfl, dn_X10_deadOne⟩ rfl ⟨by decide, by decide⟩ rfl (Nat.le_of_ble_eq_true rfl) dX10_forces_123 (fun v21 ms hd => ?_)
            show V K 7 (mkM am hn ms) 126 [(0, .ref am), (1, .int p1), (3, .int p3), (4, .int s17)] [.int v21]
            refine v_iconst (v := (-1)) X dX10_forces_126 (by decide) ?_
            refine v_icmp_ne (tgt := 223) X dX10_forces_127 (by decide) (fun q => ?_) (fun q => ?_)
            · have hd := Tite_f q hd
              exact v_loc [0, 1, 2, 3] rfl (t_at (P := fun (e20 : Int32) m => V K 7 (mkM am hn m) 223 [(0, .ref am), (1, .int p1), (3, .int p3), (4, .int e20)] []) (Tlp_out hd ho19) KX)
            · have hd := Tite_t q hd
              refine v_aload_n X dX10_forces_130 0 0 rfl rfl ?_
              refine v_iload_n X dX10_forces_131 1 1 rfl rfl ?_
              refine v_iload X dX10_forces_132 3 rfl ?_
              refine t_callV X hK hd (ct_X10_nextForced _ am p1 s17) (lw_V q2105 q2107 qs75 q120 q2108) ⟨rfl, dn_X10_nextForced⟩ rfl ⟨by decide, by decide⟩ rfl (Nat.le_of_ble_eq_true rfl) dX10_forces_134 (fun v22 ms hd => ?_)
              show V K 7 (mkM am hn ms) 137 [(0, .ref am), (1, .int p1), (3, .int p3), (4, .int s17)] [.int v22]
              refine v_istore (lv2 := [(5, .int v22), (0, .ref am), (1, .int p1), (3, .int p3), (4, .int s17)]) X dX10_forces_137 (by decide) rfl ?_
              refine v_iload X dX10_forces_139 0 rfl ?_
              refine v_iconst (v := (-1)) X dX10_forces_141 (by decide) ?_
              refine v_icmp_ne (tgt := 148) X dX10_forces_142 (by decide) (fun q => ?_) (fun q => ?_)
              · have hd := Tite_f q hd
                refine v_iconst (v := 0) X dX10_forces_148 (by decide) ?_
                refine v_istore (lv2 := [(6, .int 0), (5, .int v22), (0, .ref am), (1, .int p1), (3, .int p3), (4, .int s17)]) X dX10_forces_149 (by decide) rfl ?_
                obtain ⟨e26, m1, hd, hd2⟩ := TM.bind_some hd
                have KX : V K 7 (mkM am hn m1) 172 [(0, .ref am), (1, .int p1), (3, .int p3), (4, .int s17), (5, .int v22), (6, .int e26)] [] := by
                  clear hd
                  have hd := hd2
                  refine v_iload X dX10_forces_172 3 rfl ?_
                  refine v_iconst (v := 1) X dX10_forces_174 (by decide) ?_
                  refine v_iload X dX10_forces_175 4 rfl ?_
                  refine v_ishl X dX10_forces_177 ?_
                  refine v_ior X dX10_forces_178 ?_
                  refine t_lvI hd (fun v30 hd => ?_)
                  refine v_istore (lv2 := [(4, .int v30), (0, .ref am), (1, .int p1), (3, .int p3), (5, .int v22), (6, .int e26)]) X dX10_forces_179 (by decide) rfl ?_
                  refine v_aload_n X dX10_forces_181 1 0 rfl rfl ?_
                  refine t_getA (j := 17) X rfl fl_X10_63 dX10_forces_182 ?_
                  refine v_iload X dX10_forces_185 4 rfl ?_
                  refine v_iload X dX10_forces_187 5 rfl ?_
                  refine t_iast (j := 17) X hd rfl dX10_forces_189 (fun ms hd => ?_)
                  refine v_aload_n X dX10_forces_190 1 0 rfl rfl ?_
                  refine t_getA (j := 18) X rfl fl_X10_66 dX10_forces_191 ?_
                  refine v_aload_n X dX10_forces_194 1 0 rfl rfl ?_
                  refine t_getI X hd rfl fl_X10_333 dX10_forces_195 (fun v31 hd => ?_)
                  refine v_iload X dX10_forces_198 4 rfl ?_
                  refine t_iast (j := 18) X hd rfl dX10_forces_200 (fun ms hd => ?_)
                  refine v_aload_n X dX10_forces_201 1 0 rfl rfl ?_
                  refine v_dup X dX10_forces_202 rfl ?_
                  refine t_getI X hd rfl fl_X10_333 dX10_forces_203 (fun v32 hd => ?_)
                  refine v_iconst (v := 1) X dX10_forces_206 (by decide) ?_
                  refine v_iadd X dX10_forces_207 ?_
                  refine t_putI X hd rfl fp_X10_333 dX10_forces_208 (fun ms hd => ?_)
                  refine v_aload_n X dX10_forces_211 1 0 rfl rfl ?_
                  refine v_iload X dX10_forces_212 4 rfl ?_
                  refine v_iload X dX10_forces_214 5 rfl ?_
                  refine v_iload_n X dX10_forces_216 2 1 rfl rfl ?_
                  refine t_callV X hK hd (ct_X10_drop _ am v22 e26 p1) (lw_V q2097 q2099 qs73 q120 q2100) ⟨rfl, dn_X10_drop⟩ rfl ⟨by decide, by decide⟩ rfl (Nat.le_of_ble_eq_true rfl) dX10_forces_217 (fun v33 ms hd => ?_)
                  show V K 7 (mkM am hn ms) 220 [(4, .int v30), (0, .ref am), (1, .int p1), (3, .int p3), (5, .int v22), (6, .int e26)] []
                  refine v_goto (tgt := 121) X dX10_forces_220 (by decide) ?_
                  exact v_loc [1, 2, 3, 0] rfl (Tlp_in (P := fun (s17 : Int32) m => V K 7 (mkM am hn m) 121 [(0, .ref am), (1, .int p1), (3, .int p3), (4, .int s17)] []) hd ih18)
                clear hd2
                refine v_loc [2, 3, 4, 5, 1, 0] rfl ?_
                refine Tloop_ind hd (fun (s23 : Int32) m => V K 7 (mkM am hn m) 151 [(0, .ref am), (1, .int p1), (3, .int p3), (4, .int s17), (5, .int v22), (6, .int s23)] []) (fun s23 ms x m2 hd ih24 ho25 => ?_)
                refine v_aload_n X dX10_forces_151 0 0 rfl rfl ?_
                refine t_getA (j := 16) X rfl fl_X10_60 dX10_forces_152 ?_
                refine v_iload X dX10_forces_155 4 rfl ?_
                refine t_iald (j := 16) X hd rfl dX10_forces_157 (fun v27 hd => ?_)
                refine v_iload X dX10_forces_158 5 rfl ?_
                refine t_callS X hK hd (ct_X10_has _ am v27 s23) (lw_S q1947 q1948 q120 q1949) dn_X10_has rfl ⟨by decide, by decide⟩ rfl (Nat.le_of_ble_eq_true rfl) dX10_forces_160 (fun v28 ms hd => ?_)
                show V K 7 (mkM am hn ms) 163 [(0, .ref am), (1, .int p1), (3, .int p3), (4, .int s17), (5, .int v22), (6, .int s23)] [.int (b2i v28)]
                refine v_ifZ_ne (tgt := 172) X dX10_forces_163 (by decide) (fun q => ?_) (fun q => ?_)
                · have hd := Tcnd_t q hd
                  exact v_loc [0, 1, 2, 3, 4, 5] rfl (t_at (P := fun (e26 : Int32) m => V K 7 (mkM am hn m) 172 [(0, .ref am), (1, .int p1), (3, .int p3), (4, .int s17), (5, .int v22), (6, .int e26)] []) (Tlp_out hd ho25) KX)
                · have hd := Tcnd_f q hd
                  refine t_iincL (lv2 := fun v29 => [(6, .int v29), (0, .ref am), (1, .int p1), (3, .int p3), (4, .int s17), (5, .int v22)]) X hd dX10_forces_166 5 rfl (by decide : Int32.ofInt 1 = 1) (by decide) (fun v29 => rfl) (fun v29 hd => ?_)
                  refine v_goto (tgt := 151) X dX10_forces_169 (by decide) ?_
                  exact v_loc [1, 2, 3, 4, 5, 0] rfl (Tlp_in (P := fun (s23 : Int32) m => V K 7 (mkM am hn m) 151 [(0, .ref am), (1, .int p1), (3, .int p3), (4, .int s17), (5, .int v22), (6, .int s23)] []) hd ih24)
              · have hd := Tite_t q hd
                refine v_goto (tgt := 223) X dX10_forces_145 (by decide) ?_
                exact v_loc [1, 2, 3, 4] rfl (t_at (P := fun (e20 : Int32) m => V K 7 (mkM am hn m) 223 [(0, .ref am), (1, .int p1), (3, .int p3), (4, .int e20)] []) (Tlp_out hd ho19) KX)
          clear hd2
          refine v_loc [1, 2, 3, 4, 0] rfl ?_
          refine Tloop_ind hd (fun (s8 : Int32) m => V K 7 (mkM am hn m) 61 [(0, .ref am), (1, .int p1), (2, .int p2), (3, .int p3), (4, .int s8)] []) (fun s8 ms x m2 hd ih9 ho10 => ?_)
          refine v_iload X dX10_forces_61 4 rfl ?_
          refine v_aload_n X dX10_forces_63 0 0 rfl rfl ?_
          refine t_callV X hK hd (ct_X10_doors _ am) (lw_V q1986 q1988 qs57 q120 q1989) ⟨rfl, dn_X10_doors⟩ rfl ⟨by decide, by decide⟩ rfl (Nat.le_of_ble_eq_true rfl) dX10_forces_64 (fun v12 ms hd => ?_)
          show V K 7 (mkM am hn ms) 67 [(0, .ref am), (1, .int p1), (2, .int p2), (3, .int p3), (4, .int s8)] [.int v12, .int s8]
          refine v_icmp_ge (tgt := 98) X dX10_forces_67 (by decide) (fun q => ?_) (fun q => ?_)
          · have hd := Tite_t q hd
            exact v_loc [0, 1, 2, 3] rfl (t_at (P := fun (e11 : Unit) m => V K 7 (mkM am hn m) 98 [(0, .ref am), (1, .int p1), (2, .int p2), (3, .int p3)] []) (Tlp_out hd ho10) KX)
          · have hd := Tite_f q hd
            refine v_aload_n X dX10_forces_70 0 0 rfl rfl ?_
            refine t_getA (j := 16) X rfl fl_X10_60 dX10_forces_71 ?_
            refine v_iload X dX10_forces_74 4 rfl ?_
            refine v_aload_n X dX10_forces_76 0 0 rfl rfl ?_
            refine t_getA (j := 13) X rfl fl_X10_51 dX10_forces_77 ?_
            refine v_iload X dX10_forces_80 4 rfl ?_
            refine t_iald (j := 13) X hd rfl dX10_forces_82 (fun v13 hd => ?_)
            refine t_iast (j := 16) X hd rfl dX10_forces_83 (fun ms hd => ?_)
            refine v_aload_n X dX10_forces_84 0 0 rfl rfl ?_
            refine t_getA (j := 17) X rfl fl_X10_63 dX10_forces_85 ?_
            refine v_iload X dX10_forces_88 4 rfl ?_
            refine v_iconst (v := (-1)) X dX10_forces_90 (by decide) ?_
            refine t_iast (j := 17) X hd rfl dX10_forces_91 (fun ms hd => ?_)
            refine t_iincL (lv2 := fun v14 => [(4, .int v14), (0, .ref am), (1, .int p1), (2, .int p2), (3, .int p3)]) X hd dX10_forces_92 4 rfl (by decide : Int32.ofInt 1 = 1) (by decide) (fun v14 => rfl) (fun v14 hd => ?_)
            refine v_goto (tgt := 61) X dX10_forces_95 (by decide) ?_
            exact v_loc [1, 2, 3, 4, 0] rfl (Tlp_in (P := fun (s8 : Int32) m => V K 7 (mkM am hn m) 61 [(0, .ref am), (1, .int p1), (2, .int p2), (3, .int p3), (4, .int s8)] []) hd ih9)
        · have hd := Tcnd_f q hd
          refine v_bipush (v := (-2)) X dX10_forces_55 (by decide) ?_
          exact t_iret X hK hd ho dX10_forces_57
      · have hd := Tcnd_f q hd
        refine v_bipush (v := (-2)) X dX10_forces_35 (by decide) ?_
        exact t_iret X hK hd ho dX10_forces_37
