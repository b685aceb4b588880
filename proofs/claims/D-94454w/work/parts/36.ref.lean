set_option maxRecDepth 100000
def dkwX10_take_0 : List UInt8 := [42, 180, 0, 112, 60, 42, 3, 181, 0, 112, 27, 172]
abbrev dktX10_take_0 : List UInt8 := dkwX10_take_0 ++ []
theorem dksX10_take_0 : cX10_take.data.toList.drop 0 = dktX10_take_0 := by decide +kernel
theorem dX10_take_0 : decode cX10_take 0 = .ok (.aload_n 0, 1) := dk_42 (dk_at dksX10_take_0 0 rfl rfl)
theorem dX10_take_1 : decode cX10_take 1 = .ok (.getfield 112, 3) := dk_180 0 112 (dk_at dksX10_take_0 1 rfl rfl)
theorem dX10_take_4 : decode cX10_take 4 = .ok (.istore_n 1, 1) := dk_60 (dk_at dksX10_take_0 4 rfl rfl)
theorem dX10_take_5 : decode cX10_take 5 = .ok (.aload_n 0, 1) := dk_42 (dk_at dksX10_take_0 5 rfl rfl)
theorem dX10_take_6 : decode cX10_take 6 = .ok (.iconst 0, 1) := dk_3 (dk_at dksX10_take_0 6 rfl rfl)
theorem dX10_take_7 : decode cX10_take 7 = .ok (.putfield 112, 3) := dk_181 0 112 (dk_at dksX10_take_0 7 rfl rfl)
theorem dX10_take_10 : decode cX10_take 10 = .ok (.iload_n 1, 1) := dk_27 (dk_at dksX10_take_0 10 rfl rfl)
theorem dX10_take_11 : decode cX10_take 11 = .ok (.ireturn, 1) := dk_172 (dk_at dksX10_take_0 11 rfl rfl)
theorem fp_X10_112 {nm : String} : gFp "BitingDoorsModel" nm 112 [8] 2 .int := by
  intro args s hts hN ci hc
  simp only [List.mem_cons, List.not_mem_nil, or_false] at hc
  subst hc
  exact ⟨RX10, TX10, 64, "BitingDoorsModel", gCl_X10, in_X10, by decide, Or.inl ⟨rfl, Or.inl (hts _ q1652)⟩, fun _ h => h, rfl, fun D tys hK => gap_X10 hts hK⟩
theorem dn_X10_take : yX10_take.cls ≠ "java/lang/invoke/MethodHandle" ∧ yX10_take.cls ≠ "java/lang/invoke/VarHandle" ∧ (parseMethodDescriptor yX10_take.desc).map (fun d => d.parameters.length) = some 0 := by decide +kernel
noncomputable def M_X10_take  : TM Int32 := TM.bind (tI 2) (fun v1 => TM.bind (sI 2 0) (fun _ => TM.pure v1))
set_option maxHeartbeats 4000000 in
theorem ct_X10_take (G : gG) (am : Nat)  : gCtM G am yX10_take cX10_take 2 (some .int) 0 0 [.ref am] (M_X10_take) (fun x : Int32 => some (.int x)) := by
  refine gCtM.of (by decide) (Nat.le_of_ble_eq_true rfl) (fun K hn ms ms' r hG X hK hd ho => ?_)
  subst hG
  have X : gX K cX10_take 2 "BitingDoorsModel" "take" (some .int) 0 0 := X
  show V K 2 (mkM am hn ms) 0 [(0, .ref am)] []
  unfold M_X10_take at hd
  refine v_aload_n X dX10_take_0 0 0 rfl rfl ?_
  refine t_getI X hd rfl fl_X10_112 dX10_take_1 (fun v1 hd => ?_)
  refine v_istore_n (lv2 := [(1, .int v1), (0, .ref am)]) X dX10_take_4 1 rfl (by decide) rfl ?_
  refine v_aload_n X dX10_take_5 1 0 rfl rfl ?_
  refine v_iconst (v := 0) X dX10_take_6 (by decide) ?_
  refine t_putI X hd rfl fp_X10_112 dX10_take_7 (fun ms hd => ?_)
  refine v_iload_n X dX10_take_10 0 1 rfl rfl ?_
  exact t_iret X hK hd ho dX10_take_11
def dkwX10_begin_1 : List UInt8 := [181, 0, 178, 42, 3, 181, 0, 122, 42, 182, 0, 194, 177]
abbrev dktX10_begin_1 : List UInt8 := dkwX10_begin_1 ++ []
def dkwX10_begin_0 : List UInt8 := [42, 3, 181, 0, 108, 42, 182, 0, 200, 42, 42, 182, 0, 203, 181, 0, 119, 42, 27, 181, 0, 128, 42, 3]
abbrev dktX10_begin_0 : List UInt8 := dkwX10_begin_0 ++ dktX10_begin_1
theorem dksX10_begin_0 : cX10_begin.data.toList.drop 0 = dktX10_begin_0 := by decide +kernel
theorem dksX10_begin_1 : cX10_begin.data.toList.drop 24 = dktX10_begin_1 := dk_seg dksX10_begin_0 24 rfl rfl
theorem dX10_begin_0 : decode cX10_begin 0 = .ok (.aload_n 0, 1) := dk_42 (dk_at dksX10_begin_0 0 rfl rfl)
theorem dX10_begin_1 : decode cX10_begin 1 = .ok (.iconst 0, 1) := dk_3 (dk_at dksX10_begin_0 1 rfl rfl)
theorem dX10_begin_2 : decode cX10_begin 2 = .ok (.putfield 108, 3) := dk_181 0 108 (dk_at dksX10_begin_0 2 rfl rfl)
theorem dX10_begin_5 : decode cX10_begin 5 = .ok (.aload_n 0, 1) := dk_42 (dk_at dksX10_begin_0 5 rfl rfl)
theorem dX10_begin_6 : decode cX10_begin 6 = .ok (.invokevirtual 200, 3) := dk_182 0 200 (dk_at dksX10_begin_0 6 rfl rfl)
theorem dX10_begin_9 : decode cX10_begin 9 = .ok (.aload_n 0, 1) := dk_42 (dk_at dksX10_begin_0 9 rfl rfl)
theorem dX10_begin_10 : decode cX10_begin 10 = .ok (.aload_n 0, 1) := dk_42 (dk_at dksX10_begin_0 10 rfl rfl)
theorem dX10_begin_11 : decode cX10_begin 11 = .ok (.invokevirtual 203, 3) := dk_182 0 203 (dk_at dksX10_begin_0 11 rfl rfl)
theorem dX10_begin_14 : decode cX10_begin 14 = .ok (.putfield 119, 3) := dk_181 0 119 (dk_at dksX10_begin_0 14 rfl rfl)
theorem dX10_begin_17 : decode cX10_begin 17 = .ok (.aload_n 0, 1) := dk_42 (dk_at dksX10_begin_0 17 rfl rfl)
theorem dX10_begin_18 : decode cX10_begin 18 = .ok (.iload_n 1, 1) := dk_27 (dk_at dksX10_begin_0 18 rfl rfl)
theorem dX10_begin_19 : decode cX10_begin 19 = .ok (.putfield 128, 3) := dk_181 0 128 (dk_at dksX10_begin_0 19 rfl rfl)
theorem dX10_begin_22 : decode cX10_begin 22 = .ok (.aload_n 0, 1) := dk_42 (dk_at dksX10_begin_0 22 rfl rfl)
theorem dX10_begin_23 : decode cX10_begin 23 = .ok (.iconst 0, 1) := dk_3 (dk_at dksX10_begin_0 23 rfl rfl)
theorem dX10_begin_24 : decode cX10_begin 24 = .ok (.putfield 178, 3) := dk_181 0 178 (dk_at dksX10_begin_1 0 rfl rfl)
theorem dX10_begin_27 : decode cX10_begin 27 = .ok (.aload_n 0, 1) := dk_42 (dk_at dksX10_begin_1 3 rfl rfl)
theorem dX10_begin_28 : decode cX10_begin 28 = .ok (.iconst 0, 1) := dk_3 (dk_at dksX10_begin_1 4 rfl rfl)
theorem dX10_begin_29 : decode cX10_begin 29 = .ok (.putfield 122, 3) := dk_181 0 122 (dk_at dksX10_begin_1 5 rfl rfl)
theorem dX10_begin_32 : decode cX10_begin 32 = .ok (.aload_n 0, 1) := dk_42 (dk_at dksX10_begin_1 8 rfl rfl)
theorem dX10_begin_33 : decode cX10_begin 33 = .ok (.invokevirtual 194, 3) := dk_182 0 194 (dk_at dksX10_begin_1 9 rfl rfl)
theorem dX10_begin_36 : decode cX10_begin 36 = .ok (.return_, 1) := dk_177 (dk_at dksX10_begin_1 12 rfl rfl)
theorem fp_X10_119 {nm : String} : gFp "BitingDoorsModel" nm 119 [8] 3 .int := by
  intro args s hts hN ci hc
  simp only [List.mem_cons, List.not_mem_nil, or_false] at hc
  subst hc
  exact ⟨RX10, TX10, 64, "BitingDoorsModel", gCl_X10, in_X10, by decide, Or.inl ⟨rfl, Or.inl (hts _ q1653)⟩, fun _ h => h, rfl, fun D tys hK => gap_X10 hts hK⟩
theorem fp_X10_128 {nm : String} : gFp "BitingDoorsModel" nm 128 [8] 4 .int := by
  intro args s hts hN ci hc
  simp only [List.mem_cons, List.not_mem_nil, or_false] at hc
  subst hc
  exact ⟨RX10, TX10, 64, "BitingDoorsModel", gCl_X10, in_X10, by decide, Or.inl ⟨rfl, Or.inl (hts _ q1654)⟩, fun _ h => h, rfl, fun D tys hK => gap_X10 hts hK⟩
theorem dn_X10_begin : yX10_begin.cls ≠ "java/lang/invoke/MethodHandle" ∧ yX10_begin.cls ≠ "java/lang/invoke/VarHandle" ∧ (parseMethodDescriptor yX10_begin.desc).map (fun d => d.parameters.length) = some 1 := by decide +kernel
noncomputable def M_X10_begin (p1 : Int32) : TM Unit := TM.bind (sI 0 0) (fun _ => TM.bind (M_X10_lay) (fun v1 => TM.bind (M_X10_take) (fun v2 => TM.bind (sI 3 v2) (fun _ => TM.bind (sI 4 p1) (fun _ => TM.bind (sI 10 0) (fun _ => TM.bind (sI 5 0) (fun _ => TM.bind (M_X10_go) (fun v3 => TM.pure ()))))))))
set_option maxHeartbeats 4000000 in
theorem ct_X10_begin (G : gG) (am : Nat) (p1 : Int32) : gCtM G am yX10_begin cX10_begin 2 none 2 45 [.ref am, .int p1] (M_X10_begin p1) (fun _ : Unit => none) := by
  refine gCtM.of (by decide) (Nat.le_of_ble_eq_true rfl) (fun K hn ms ms' r hG X hK hd ho => ?_)
  subst hG
  have X : gX K cX10_begin 2 "BitingDoorsModel" "begin" none 2 45 := X
  show V K 2 (mkM am hn ms) 0 [(0, .ref am), (1, .int p1)] []
  unfold M_X10_begin at hd
  refine v_aload_n X dX10_begin_0 0 0 rfl rfl ?_
  refine v_iconst (v := 0) X dX10_begin_1 (by decide) ?_
  refine t_putI X hd rfl fp_X10_108 dX10_begin_2 (fun ms hd => ?_)
  refine v_aload_n X dX10_begin_5 0 0 rfl rfl ?_
  refine t_callV X hK hd (ct_X10_lay _ am) (lw_V q1868 q1870 qs37 q120 q1871) ⟨rfl, dn_X10_lay⟩ rfl ⟨by decide, by decide⟩ rfl (Nat.le_of_ble_eq_true rfl) dX10_begin_6 (fun v1 ms hd => ?_)
  show V K 2 (mkM am hn ms) 9 [(0, .ref am), (1, .int p1)] []
  refine v_aload_n X dX10_begin_9 0 0 rfl rfl ?_
  refine v_aload_n X dX10_begin_10 0 0 rfl rfl ?_
  refine t_callV X hK hd (ct_X10_take _ am) (lw_V q1872 q1874 qs38 q120 q1875) ⟨rfl, dn_X10_take⟩ rfl ⟨by decide, by decide⟩ rfl (Nat.le_of_ble_eq_true rfl) dX10_begin_11 (fun v2 ms hd => ?_)
  show V K 2 (mkM am hn ms) 14 [(0, .ref am), (1, .int p1)] [.int v2, .ref am]
  refine t_putI X hd rfl fp_X10_119 dX10_begin_14 (fun ms hd => ?_)
  refine v_aload_n X dX10_begin_17 0 0 rfl rfl ?_
  refine v_iload_n X dX10_begin_18 1 1 rfl rfl ?_
  refine t_putI X hd rfl fp_X10_128 dX10_begin_19 (fun ms hd => ?_)
  refine v_aload_n X dX10_begin_22 0 0 rfl rfl ?_
  refine v_iconst (v := 0) X dX10_begin_23 (by decide) ?_
  refine t_putI X hd rfl fp_X10_178 dX10_begin_24 (fun ms hd => ?_)
  refine v_aload_n X dX10_begin_27 0 0 rfl rfl ?_
  refine v_iconst (v := 0) X dX10_begin_28 (by decide) ?_
  refine t_putI X hd rfl fp_X10_122 dX10_begin_29 (fun ms hd => ?_)
  refine v_aload_n X dX10_begin_32 0 0 rfl rfl ?_
  refine t_callV X hK hd (ct_X10_go _ am) (lw_V q1876 q1878 qs39 q120 q1879) ⟨rfl, dn_X10_go⟩ rfl ⟨by decide, by decide⟩ rfl (Nat.le_of_ble_eq_true rfl) dX10_begin_33 (fun v3 ms hd => ?_)
  show V K 2 (mkM am hn ms) 36 [(0, .ref am), (1, .int p1)] []
  exact t_vret X hK hd ho dX10_begin_36
def dkwX10_lays_2 : List UInt8 := [89, 180, 1, 179, 4, 96, 181, 1, 179, 42, 180, 1, 179, 4, 100, 172]
abbrev dktX10_lays_2 : List UInt8 := dkwX10_lays_2 ++ []
def dkwX10_lays_1 : List UInt8 := [28, 79, 42, 180, 0, 105, 21, 5, 5, 96, 29, 79, 42, 180, 0, 105, 21, 5, 6, 96, 21, 4, 79, 42]
abbrev dktX10_lays_1 : List UInt8 := dkwX10_lays_1 ++ dktX10_lays_2
def dkwX10_lays_0 : List UInt8 := [7, 42, 180, 1, 179, 104, 54, 5, 42, 180, 0, 105, 21, 5, 27, 79, 42, 180, 0, 105, 21, 5, 4, 96]
abbrev dktX10_lays_0 : List UInt8 := dkwX10_lays_0 ++ dktX10_lays_1
theorem dksX10_lays_0 : cX10_lays.data.toList.drop 0 = dktX10_lays_0 := by decide +kernel
theorem dksX10_lays_1 : cX10_lays.data.toList.drop 24 = dktX10_lays_1 := dk_seg dksX10_lays_0 24 rfl rfl
theorem dksX10_lays_2 : cX10_lays.data.toList.drop 48 = dktX10_lays_2 := dk_seg dksX10_lays_1 24 rfl rfl
theorem dX10_lays_0 : decode cX10_lays 0 = .ok (.iconst 4, 1) := dk_7 (dk_at dksX10_lays_0 0 rfl rfl)
theorem dX10_lays_1 : decode cX10_lays 1 = .ok (.aload_n 0, 1) := dk_42 (dk_at dksX10_lays_0 1 rfl rfl)
theorem dX10_lays_2 : decode cX10_lays 2 = .ok (.getfield 435, 3) := dk_180 1 179 (dk_at dksX10_lays_0 2 rfl rfl)
theorem dX10_lays_5 : decode cX10_lays 5 = .ok (.imul, 1) := dk_104 (dk_at dksX10_lays_0 5 rfl rfl)
theorem dX10_lays_6 : decode cX10_lays 6 = .ok (.istore 5, 2) := dk_54 5 (dk_at dksX10_lays_0 6 rfl rfl)
theorem dX10_lays_8 : decode cX10_lays 8 = .ok (.aload_n 0, 1) := dk_42 (dk_at dksX10_lays_0 8 rfl rfl)
theorem dX10_lays_9 : decode cX10_lays 9 = .ok (.getfield 105, 3) := dk_180 0 105 (dk_at dksX10_lays_0 9 rfl rfl)
theorem dX10_lays_12 : decode cX10_lays 12 = .ok (.iload 5, 2) := dk_21 5 (dk_at dksX10_lays_0 12 rfl rfl)
theorem dX10_lays_14 : decode cX10_lays 14 = .ok (.iload_n 1, 1) := dk_27 (dk_at dksX10_lays_0 14 rfl rfl)
theorem dX10_lays_15 : decode cX10_lays 15 = .ok (.iastore, 1) := dk_79 (dk_at dksX10_lays_0 15 rfl rfl)
theorem dX10_lays_16 : decode cX10_lays 16 = .ok (.aload_n 0, 1) := dk_42 (dk_at dksX10_lays_0 16 rfl rfl)
theorem dX10_lays_17 : decode cX10_lays 17 = .ok (.getfield 105, 3) := dk_180 0 105 (dk_at dksX10_lays_0 17 rfl rfl)
theorem dX10_lays_20 : decode cX10_lays 20 = .ok (.iload 5, 2) := dk_21 5 (dk_at dksX10_lays_0 20 rfl rfl)
theorem dX10_lays_22 : decode cX10_lays 22 = .ok (.iconst 1, 1) := dk_4 (dk_at dksX10_lays_0 22 rfl rfl)
theorem dX10_lays_23 : decode cX10_lays 23 = .ok (.iadd, 1) := dk_96 (dk_at dksX10_lays_0 23 rfl rfl)
theorem dX10_lays_24 : decode cX10_lays 24 = .ok (.iload_n 2, 1) := dk_28 (dk_at dksX10_lays_1 0 rfl rfl)
theorem dX10_lays_25 : decode cX10_lays 25 = .ok (.iastore, 1) := dk_79 (dk_at dksX10_lays_1 1 rfl rfl)
theorem dX10_lays_26 : decode cX10_lays 26 = .ok (.aload_n 0, 1) := dk_42 (dk_at dksX10_lays_1 2 rfl rfl)
theorem dX10_lays_27 : decode cX10_lays 27 = .ok (.getfield 105, 3) := dk_180 0 105 (dk_at dksX10_lays_1 3 rfl rfl)
theorem dX10_lays_30 : decode cX10_lays 30 = .ok (.iload 5, 2) := dk_21 5 (dk_at dksX10_lays_1 6 rfl rfl)
theorem dX10_lays_32 : decode cX10_lays 32 = .ok (.iconst 2, 1) := dk_5 (dk_at dksX10_lays_1 8 rfl rfl)
theorem dX10_lays_33 : decode cX10_lays 33 = .ok (.iadd, 1) := dk_96 (dk_at dksX10_lays_1 9 rfl rfl)
theorem dX10_lays_34 : decode cX10_lays 34 = .ok (.iload_n 3, 1) := dk_29 (dk_at dksX10_lays_1 10 rfl rfl)
theorem dX10_lays_35 : decode cX10_lays 35 = .ok (.iastore, 1) := dk_79 (dk_at dksX10_lays_1 11 rfl rfl)
theorem dX10_lays_36 : decode cX10_lays 36 = .ok (.aload_n 0, 1) := dk_42 (dk_at dksX10_lays_1 12 rfl rfl)
theorem dX10_lays_37 : decode cX10_lays 37 = .ok (.getfield 105, 3) := dk_180 0 105 (dk_at dksX10_lays_1 13 rfl rfl)
theorem dX10_lays_40 : decode cX10_lays 40 = .ok (.iload 5, 2) := dk_21 5 (dk_at dksX10_lays_1 16 rfl rfl)
theorem dX10_lays_42 : decode cX10_lays 42 = .ok (.iconst 3, 1) := dk_6 (dk_at dksX10_lays_1 18 rfl rfl)
theorem dX10_lays_43 : decode cX10_lays 43 = .ok (.iadd, 1) := dk_96 (dk_at dksX10_lays_1 19 rfl rfl)
theorem dX10_lays_44 : decode cX10_lays 44 = .ok (.iload 4, 2) := dk_21 4 (dk_at dksX10_lays_1 20 rfl rfl)
theorem dX10_lays_46 : decode cX10_lays 46 = .ok (.iastore, 1) := dk_79 (dk_at dksX10_lays_1 22 rfl rfl)
theorem dX10_lays_47 : decode cX10_lays 47 = .ok (.aload_n 0, 1) := dk_42 (dk_at dksX10_lays_1 23 rfl rfl)
theorem dX10_lays_48 : decode cX10_lays 48 = .ok (.dup, 1) := dk_89 (dk_at dksX10_lays_2 0 rfl rfl)
theorem dX10_lays_49 : decode cX10_lays 49 = .ok (.getfield 435, 3) := dk_180 1 179 (dk_at dksX10_lays_2 1 rfl rfl)
theorem dX10_lays_52 : decode cX10_lays 52 = .ok (.iconst 1, 1) := dk_4 (dk_at dksX10_lays_2 4 rfl rfl)
theorem dX10_lays_53 : decode cX10_lays 53 = .ok (.iadd, 1) := dk_96 (dk_at dksX10_lays_2 5 rfl rfl)
theorem dX10_lays_54 : decode cX10_lays 54 = .ok (.putfield 435, 3) := dk_181 1 179 (dk_at dksX10_lays_2 6 rfl rfl)
theorem dX10_lays_57 : decode cX10_lays 57 = .ok (.aload_n 0, 1) := dk_42 (dk_at dksX10_lays_2 9 rfl rfl)
theorem dX10_lays_58 : decode cX10_lays 58 = .ok (.getfield 435, 3) := dk_180 1 179 (dk_at dksX10_lays_2 10 rfl rfl)
theorem dX10_lays_61 : decode cX10_lays 61 = .ok (.iconst 1, 1) := dk_4 (dk_at dksX10_lays_2 13 rfl rfl)
theorem dX10_lays_62 : decode cX10_lays 62 = .ok (.isub, 1) := dk_100 (dk_at dksX10_lays_2 14 rfl rfl)
theorem dX10_lays_63 : decode cX10_lays 63 = .ok (.ireturn, 1) := dk_172 (dk_at dksX10_lays_2 15 rfl rfl)
theorem fl_X10_105 : gFl "BitingDoorsModel" 105 [8] 59 := by
  intro args s hts hN ci hc
  simp only [List.mem_cons, List.not_mem_nil, or_false] at hc
  subst hc
  exact ⟨RX10, TX10, 64, "BitingDoorsModel", gCl_X10, in_X10, by decide, Or.inl (hts _ q1709), fun _ h => h⟩
theorem fl_X10_435 : gFl "BitingDoorsModel" 435 [8] 60 := by
  intro args s hts hN ci hc
  simp only [List.mem_cons, List.not_mem_nil, or_false] at hc
  subst hc
  exact ⟨RX10, TX10, 64, "BitingDoorsModel", gCl_X10, in_X10, by decide, Or.inl (hts _ q1710), fun _ h => h⟩
theorem fp_X10_435 {nm : String} : gFp "BitingDoorsModel" nm 435 [8] 60 .int := by
  intro args s hts hN ci hc
  simp only [List.mem_cons, List.not_mem_nil, or_false] at hc
  subst hc
  exact ⟨RX10, TX10, 64, "BitingDoorsModel", gCl_X10, in_X10, by decide, Or.inl ⟨rfl, Or.inl (hts _ q1710)⟩, fun _ h => h, rfl, fun D tys hK => gap_X10 hts hK⟩
theorem dn_X10_lays : yX10_lays.cls ≠ "java/lang/invoke/MethodHandle" ∧ yX10_lays.cls ≠ "java/lang/invoke/VarHandle" ∧ (parseMethodDescriptor yX10_lays.desc).map (fun d => d.parameters.length) = some 4 := by decide +kernel
noncomputable def M_X10_lays (p1 : Int32) (p2 : Int32) (p3 : Int32) (p4 : Int32) : TM Int32 := TM.bind (tI 60) (fun v1 => TM.lv (4 * v1) (fun v2 => TM.bind (sA 59 240 v2 p1) (fun _ => TM.bind (sA 59 240 (v2 + 1) p2) (fun _ => TM.bind (sA 59 240 (v2 + 2) p3) (fun _ => TM.bind (sA 59 240 (v2 + 3) p4) (fun _ => TM.bind (tI 60) (fun v3 => TM.bind (sI 60 (v3 + 1)) (fun _ => TM.bind (tI 60) (fun v4 => TM.pure (v4 - 1))))))))))
set_option maxHeartbeats 4000000 in
theorem ct_X10_lays (G : gG) (am : Nat) (p1 : Int32) (p2 : Int32) (p3 : Int32) (p4 : Int32) : gCtM G am yX10_lays cX10_lays 6 (some .int) 0 0 [.ref am, .int p1, .int p2, .int p3, .int p4] (M_X10_lays p1 p2 p3 p4) (fun x : Int32 => some (.int x)) := by
  refine gCtM.of (by decide) (Nat.le_of_ble_eq_true rfl) (fun K hn ms ms' r hG X hK hd ho => ?_)
  subst hG
  have X : gX K cX10_lays 6 "BitingDoorsModel" "lays" (some .int) 0 0 := X
  show V K 6 (mkM am hn ms) 0 [(0, .ref am), (1, .int p1), (2, .int p2), (3, .int p3), (4, .int p4)] []
  unfold M_X10_lays at hd
  refine v_iconst (v := 4) X dX10_lays_0 (by decide) ?_
  refine v_aload_n X dX10_lays_1 0 0 rfl rfl ?_
  refine t_getI X hd rfl fl_X10_435 dX10_lays_2 (fun v1 hd => ?_)
  refine v_imul X dX10_lays_5 ?_
  refine t_lvI hd (fun v2 hd => ?_)
  refine v_istore (lv2 := [(5, .int v2), (0, .ref am), (1, .int p1), (2, .int p2), (3, .int p3), (4, .int p4)]) X dX10_lays_6 (by decide) rfl ?_
  refine v_aload_n X dX10_lays_8 1 0 rfl rfl ?_
  refine t_getA (j := 31) X rfl fl_X10_105 dX10_lays_9 ?_
  refine v_iload X dX10_lays_12 0 rfl ?_
  refine v_iload_n X dX10_lays_14 2 1 rfl rfl ?_
  refine t_iast (j := 31) X hd rfl dX10_lays_15 (fun ms hd => ?_)
  refine v_aload_n X dX10_lays_16 1 0 rfl rfl ?_
  refine t_getA (j := 31) X rfl fl_X10_105 dX10_lays_17 ?_
  refine v_iload X dX10_lays_20 0 rfl ?_
  refine v_iconst (v := 1) X dX10_lays_22 (by decide) ?_
  refine v_iadd X dX10_lays_23 ?_
  refine v_iload_n X dX10_lays_24 3 2 rfl rfl ?_
  refine t_iast (j := 31) X hd rfl dX10_lays_25 (fun ms hd => ?_)
  refine v_aload_n X dX10_lays_26 1 0 rfl rfl ?_
  refine t_getA (j := 31) X rfl fl_X10_105 dX10_lays_27 ?_
  refine v_iload X dX10_lays_30 0 rfl ?_
  refine v_iconst (v := 2) X dX10_lays_32 (by decide) ?_
  refine v_iadd X dX10_lays_33 ?_
  refine v_iload_n X dX10_lays_34 4 3 rfl rfl ?_
  refine t_iast (j := 31) X hd rfl dX10_lays_35 (fun ms hd => ?_)
  refine v_aload_n X dX10_lays_36 1 0 rfl rfl ?_
  refine t_getA (j := 31) X rfl fl_X10_105 dX10_lays_37 ?_
  refine v_iload X dX10_lays_40 0 rfl ?_
  refine v_iconst (v := 3) X dX10_lays_42 (by decide) ?_
  refine v_iadd X dX10_lays_43 ?_
  refine v_iload X dX10_lays_44 5 rfl ?_
  refine t_iast (j := 31) X hd rfl dX10_lays_46 (fun ms hd => ?_)
  refine v_aload_n X dX10_lays_47 1 0 rfl rfl ?_
  refine v_dup X dX10_lays_48 rfl ?_
  refine t_getI X hd rfl fl_X10_435 dX10_lays_49 (fun v3 hd => ?_)
  refine v_iconst (v := 1) X dX10_lays_52 (by decide) ?_
  refine v_iadd X dX10_lays_53 ?_
  refine t_putI X hd rfl fp_X10_435 dX10_lays_54 (fun ms hd => ?_)
  refine v_aload_n X dX10_lays_57 1 0 rfl rfl ?_
  refine t_getI X hd rfl fl_X10_435 dX10_lays_58 (fun v4 hd => ?_)
  refine v_iconst (v := 1) X dX10_lays_61 (by decide) ?_
  refine v_isub X dX10_lays_62 ?_
  exact t_iret X hK hd ho dX10_lays_63
def dkwX10_isSign_0 : List UInt8 := [42, 180, 0, 131, 7, 160, 0, 15, 42, 180, 0, 141, 27, 160, 0, 7, 4, 167, 0, 4, 3, 172]
abbrev dktX10_isSign_0 : List UInt8 := dkwX10_isSign_0 ++ []
theorem dksX10_isSign_0 : cX10_isSign.data.toList.drop 0 = dktX10_isSign_0 := by decide +kernel
theorem dX10_isSign_0 : decode cX10_isSign 0 = .ok (.aload_n 0, 1) := dk_42 (dk_at dksX10_isSign_0 0 rfl rfl)
theorem dX10_isSign_1 : decode cX10_isSign 1 = .ok (.getfield 131, 3) := dk_180 0 131 (dk_at dksX10_isSign_0 1 rfl rfl)
theorem dX10_isSign_4 : decode cX10_isSign 4 = .ok (.iconst 4, 1) := dk_7 (dk_at dksX10_isSign_0 4 rfl rfl)
theorem dX10_isSign_5 : decode cX10_isSign 5 = .ok (.if_icmp .ne 15, 3) := dk_160 0 15 (dk_at dksX10_isSign_0 5 rfl rfl)
theorem dX10_isSign_8 : decode cX10_isSign 8 = .ok (.aload_n 0, 1) := dk_42 (dk_at dksX10_isSign_0 8 rfl rfl)
theorem dX10_isSign_9 : decode cX10_isSign 9 = .ok (.getfield 141, 3) := dk_180 0 141 (dk_at dksX10_isSign_0 9 rfl rfl)
theorem dX10_isSign_12 : decode cX10_isSign 12 = .ok (.iload_n 1, 1) := dk_27 (dk_at dksX10_isSign_0 12 rfl rfl)
theorem dX10_isSign_13 : decode cX10_isSign 13 = .ok (.if_icmp .ne 7, 3) := dk_160 0 7 (dk_at dksX10_isSign_0 13 rfl rfl)
theorem dX10_isSign_16 : decode cX10_isSign 16 = .ok (.iconst 1, 1) := dk_4 (dk_at dksX10_isSign_0 16 rfl rfl)
theorem dX10_isSign_17 : decode cX10_isSign 17 = .ok (.goto 4, 3) := dk_167 0 4 (dk_at dksX10_isSign_0 17 rfl rfl)
theorem dX10_isSign_20 : decode cX10_isSign 20 = .ok (.iconst 0, 1) := dk_3 (dk_at dksX10_isSign_0 20 rfl rfl)
theorem dX10_isSign_21 : decode cX10_isSign 21 = .ok (.ireturn, 1) := dk_172 (dk_at dksX10_isSign_0 21 rfl rfl)
theorem fl_X10_141 : gFl "BitingDoorsModel" 141 [8] 9 := by
  intro args s hts hN ci hc
  simp only [List.mem_cons, List.not_mem_nil, or_false] at hc
  subst hc
  exact ⟨RX10, TX10, 64, "BitingDoorsModel", gCl_X10, in_X10, by decide, Or.inl (hts _ q1659), fun _ h => h⟩
theorem dn_X10_isSign : yX10_isSign.cls ≠ "java/lang/invoke/MethodHandle" ∧ yX10_isSign.cls ≠ "java/lang/invoke/VarHandle" ∧ (parseMethodDescriptor yX10_isSign.desc).map (fun d => d.parameters.length) = some 1 := by decide +kernel
noncomputable def M_X10_isSign (p1 : Int32) : TM Bool := TM.bind (tI 7) (fun v1 => TM.bind ((if v1 = 4 then TM.bind (tI 9) (fun v3 => if v3 = p1 then TM.pure true else TM.pure false) else TM.pure false : TM (Bool))) (fun u2 => TM.pure u2))
set_option maxHeartbeats 4000000 in
theorem ct_X10_isSign (G : gG) (am : Nat) (p1 : Int32) : gCtM G am yX10_isSign cX10_isSign 2 (some .boolean) 0 0 [.ref am, .int p1] (M_X10_isSign p1) (fun x : Bool => some (.int (b2i x))) := by
  refine gCtM.of (by decide) (Nat.le_of_ble_eq_true rfl) (fun K hn ms ms' r hG X hK hd ho => ?_)
  subst hG
  have X : gX K cX10_isSign 2 "BitingDoorsModel" "isSign" (some .boolean) 0 0 := X
  show V K 2 (mkM am hn ms) 0 [(0, .ref am), (1, .int p1)] []
  unfold M_X10_isSign at hd
  refine v_aload_n X dX10_isSign_0 0 0 rfl rfl ?_
  refine t_getI X hd rfl fl_X10_131 dX10_isSign_1 (fun v1 hd => ?_)
  refine v_iconst (v := 4) X dX10_isSign_4 (by decide) ?_
  obtain ⟨u2, m1, hd, hd2⟩ := TM.bind_some hd
  have KJ : V K 2 (mkM am hn m1) 21 [] [.int (b2i u2)] := by
    clear hd
    have hd := hd2
    exact t_zret X hK hd rfl ho dX10_isSign_21
  clear hd2
  refine v_icmp_ne (tgt := 20) X dX10_isSign_5 (by decide) (fun q => ?_) (fun q => ?_)
  · have hd := Tite_f q hd
    refine v_iconst (v := 0) X dX10_isSign_20 (by decide) ?_
    exact v_loc [] rfl (t_at (P := fun (u2 : Bool) m => V K 2 (mkM am hn m) 21 [] [.int (b2i u2)]) hd KJ)
  · have hd := Tite_t q hd
    refine v_aload_n X dX10_isSign_8 0 0 rfl rfl ?_
    refine t_getI X hd rfl fl_X10_141 dX10_isSign_9 (fun v3 hd => ?_)
    refine v_iload_n X dX10_isSign_12 1 1 rfl rfl ?_
    refine v_icmp_ne (tgt := 20) X dX10_isSign_13 (by decide) (fun q => ?_) (fun q => ?_)
    · have hd := Tite_f q hd
      refine v_iconst (v := 0) X dX10_isSign_20 (by decide) ?_
      exact v_loc [] rfl (t_at (P := fun (u2 : Bool) m => V K 2 (mkM am hn m) 21 [] [.int (b2i u2)]) hd KJ)
    · have hd := Tite_t q hd
      refine v_iconst (v := 1) X dX10_isSign_16 (by decide) ?_
      refine v_goto (tgt := 21) X dX10_isSign_17 (by decide) ?_
      exact v_loc [] rfl (t_at (P := fun (u2 : Bool) m => V K 2 (mkM am hn m) 21 [] [.int (b2i u2)]) hd KJ)
def dkwX10_isCellLetter_0 : List UInt8 := [26, 16, 119, 159, 0, 15, 26, 16, 102, 159, 0, 9, 26, 16, 116, 160, 0, 7, 4, 167, 0, 4, 3, 172]
abbrev dktX10_isCellLetter_0 : List UInt8 := dkwX10_isCellLetter_0 ++ []
theorem dksX10_isCellLetter_0 : cX10_isCellLetter.data.toList.drop 0 = dktX10_isCellLetter_0 := by decide +kernel
theorem dX10_isCellLetter_0 : decode cX10_isCellLetter 0 = .ok (.iload_n 0, 1) := dk_26 (dk_at dksX10_isCellLetter_0 0 rfl rfl)
theorem dX10_isCellLetter_1 : decode cX10_isCellLetter 1 = .ok (.bipush 119, 2) := dk_16 119 (dk_at dksX10_isCellLetter_0 1 rfl rfl)
theorem dX10_isCellLetter_3 : decode cX10_isCellLetter 3 = .ok (.if_icmp .eq 15, 3) := dk_159 0 15 (dk_at dksX10_isCellLetter_0 3 rfl rfl)
theorem dX10_isCellLetter_6 : decode cX10_isCellLetter 6 = .ok (.iload_n 0, 1) := dk_26 (dk_at dksX10_isCellLetter_0 6 rfl rfl)
theorem dX10_isCellLetter_7 : decode cX10_isCellLetter 7 = .ok (.bipush 102, 2) := dk_16 102 (dk_at dksX10_isCellLetter_0 7 rfl rfl)
theorem dX10_isCellLetter_9 : decode cX10_isCellLetter 9 = .ok (.if_icmp .eq 9, 3) := dk_159 0 9 (dk_at dksX10_isCellLetter_0 9 rfl rfl)
theorem dX10_isCellLetter_12 : decode cX10_isCellLetter 12 = .ok (.iload_n 0, 1) := dk_26 (dk_at dksX10_isCellLetter_0 12 rfl rfl)
theorem dX10_isCellLetter_13 : decode cX10_isCellLetter 13 = .ok (.bipush 116, 2) := dk_16 116 (dk_at dksX10_isCellLetter_0 13 rfl rfl)
theorem dX10_isCellLetter_15 : decode cX10_isCellLetter 15 = .ok (.if_icmp .ne 7, 3) := dk_160 0 7 (dk_at dksX10_isCellLetter_0 15 rfl rfl)
theorem dX10_isCellLetter_18 : decode cX10_isCellLetter 18 = .ok (.iconst 1, 1) := dk_4 (dk_at dksX10_isCellLetter_0 18 rfl rfl)
theorem dX10_isCellLetter_19 : decode cX10_isCellLetter 19 = .ok (.goto 4, 3) := dk_167 0 4 (dk_at dksX10_isCellLetter_0 19 rfl rfl)
theorem dX10_isCellLetter_22 : decode cX10_isCellLetter 22 = .ok (.iconst 0, 1) := dk_3 (dk_at dksX10_isCellLetter_0 22 rfl rfl)
theorem dX10_isCellLetter_23 : decode cX10_isCellLetter 23 = .ok (.ireturn, 1) := dk_172 (dk_at dksX10_isCellLetter_0 23 rfl rfl)
theorem dn_X10_isCellLetter : yX10_isCellLetter.cls ≠ "java/lang/invoke/MethodHandle" ∧ yX10_isCellLetter.cls ≠ "java/lang/invoke/VarHandle" ∧ (parseMethodDescriptor yX10_isCellLetter.desc).map (fun d => d.parameters.length) = some 1 := by decide +kernel
noncomputable def M_X10_isCellLetter (p1 : Int32) : TM Bool := TM.bind ((if p1 = 119 then TM.pure true else if p1 = 102 then TM.pure true else if p1 = 116 then TM.pure true else TM.pure false : TM (Bool))) (fun u1 => TM.pure u1)
set_option maxHeartbeats 4000000 in
theorem ct_X10_isCellLetter (G : gG) (am : Nat) (p1 : Int32) : gCtM G am yX10_isCellLetter cX10_isCellLetter 1 (some .boolean) 0 0 [.int p1] (M_X10_isCellLetter p1) (fun x : Bool => some (.int (b2i x))) := by
  refine gCtM.of (by decide) (Nat.le_of_ble_eq_true rfl) (fun K hn ms ms' r hG X hK hd ho => ?_)
  subst hG
  have X : gX K cX10_isCellLetter 1 "BitingDoorsModel" "isCellLetter" (some .boolean) 0 0 := X
  show V K 1 (mkM am hn ms) 0 [(0, .int p1)] []
  unfold M_X10_isCellLetter at hd
  refine v_iload_n X dX10_isCellLetter_0 0 0 rfl rfl ?_
  refine v_bipush (v := 119) X dX10_isCellLetter_1 (by decide) ?_
  obtain ⟨u1, m1, hd, hd2⟩ := TM.bind_some hd
  have KJ : V K 1 (mkM am hn m1) 23 [] [.int (b2i u1)] := by
    clear hd
    have hd := hd2
    exact t_zret X hK hd rfl ho dX10_isCellLetter_23
  clear hd2
  refine v_icmp_eq (tgt := 18) X dX10_isCellLetter_3 (by decide) (fun q => ?_) (fun q => ?_)
  · have hd := Tite_t q hd
    refine v_iconst (v := 1) X dX10_isCellLetter_18 (by decide) ?_
    refine v_goto (tgt := 23) X dX10_isCellLetter_19 (by decide) ?_
    exact v_loc [] rfl (t_at (P := fun (u1 : Bool) m => V K 1 (mkM am hn m) 23 [] [.int (b2i u1)]) hd KJ)
  · have hd := Tite_f q hd
    refine v_iload_n X dX10_isCellLetter_6 0 0 rfl rfl ?_
    refine v_bipush (v := 102) X dX10_isCellLetter_7 (by decide) ?_
    refine v_icmp_eq (tgt := 18) X dX10_isCellLetter_9 (by decide) (fun q => ?_) (fun q => ?_)
    · have hd := Tite_t q hd
      refine v_iconst (v := 1) X dX10_isCellLetter_18 (by decide) ?_
      refine v_goto (tgt := 23) X dX10_isCellLetter_19 (by decide) ?_
      exact v_loc [] rfl (t_at (P := fun (u1 : Bool) m => V K 1 (mkM am hn m) 23 [] [.int (b2i u1)]) hd KJ)
    · have hd := Tite_f q hd
      refine v_iload_n X dX10_isCellLetter_12 0 0 rfl rfl ?_
      refine v_bipush (v := 116) X dX10_isCellLetter_13 (by decide) ?_
      refine v_icmp_ne (tgt := 22) X dX10_isCellLetter_15 (by decide) (fun q => ?_) (fun q => ?_)
      · have hd := Tite_f q hd
        refine v_iconst (v := 0) X dX10_isCellLetter_22 (by decide) ?_
        exact v_loc [] rfl (t_at (P := fun (u1 : Bool) m => V K 1 (mkM am hn m) 23 [] [.int (b2i u1)]) hd KJ)
      · have hd := Tite_t q hd
        refine v_iconst (v := 1) X dX10_isCellLetter_18 (by decide) ?_
        refine v_goto (tgt := 23) X dX10_isCellLetter_19 (by decide) ?_
        exact v_loc [] rfl (t_at (P := fun (u1 : Bool) m => V K 1 (mkM am hn m) 23 [] [.int (b2i u1)]) hd KJ)
def dkwX10_isCells_1 : List UInt8 := [154, 0, 5, 3, 172, 132, 1, 1, 167, 255, 231, 4, 172]
abbrev dktX10_isCells_1 : List UInt8 := dkwX10_isCells_1 ++ []
def dkwX10_isCells_0 : List UInt8 := [42, 180, 0, 125, 60, 27, 42, 180, 0, 122, 162, 0, 23, 42, 180, 0, 7, 27, 46, 184, 0, 171]
abbrev dktX10_isCells_0 : List UInt8 := dkwX10_isCells_0 ++ dktX10_isCells_1
theorem dksX10_isCells_0 : cX10_isCells.data.toList.drop 0 = dktX10_isCells_0 := by decide +kernel
theorem dksX10_isCells_1 : cX10_isCells.data.toList.drop 22 = dktX10_isCells_1 := dk_seg dksX10_isCells_0 22 rfl rfl
theorem dX10_isCells_0 : decode cX10_isCells 0 = .ok (.aload_n 0, 1) := dk_42 (dk_at dksX10_isCells_0 0 rfl rfl)
theorem dX10_isCells_1 : decode cX10_isCells 1 = .ok (.getfield 125, 3) := dk_180 0 125 (dk_at dksX10_isCells_0 1 rfl rfl)
theorem dX10_isCells_4 : decode cX10_isCells 4 = .ok (.istore_n 1, 1) := dk_60 (dk_at dksX10_isCells_0 4 rfl rfl)
theorem dX10_isCells_5 : decode cX10_isCells 5 = .ok (.iload_n 1, 1) := dk_27 (dk_at dksX10_isCells_0 5 rfl rfl)
theorem dX10_isCells_6 : decode cX10_isCells 6 = .ok (.aload_n 0, 1) := dk_42 (dk_at dksX10_isCells_0 6 rfl rfl)
theorem dX10_isCells_7 : decode cX10_isCells 7 = .ok (.getfield 122, 3) := dk_180 0 122 (dk_at dksX10_isCells_0 7 rfl rfl)
theorem dX10_isCells_10 : decode cX10_isCells 10 = .ok (.if_icmp .ge 23, 3) := dk_162 0 23 (dk_at dksX10_isCells_0 10 rfl rfl)
theorem dX10_isCells_13 : decode cX10_isCells 13 = .ok (.aload_n 0, 1) := dk_42 (dk_at dksX10_isCells_0 13 rfl rfl)
theorem dX10_isCells_14 : decode cX10_isCells 14 = .ok (.getfield 7, 3) := dk_180 0 7 (dk_at dksX10_isCells_0 14 rfl rfl)
theorem dX10_isCells_17 : decode cX10_isCells 17 = .ok (.iload_n 1, 1) := dk_27 (dk_at dksX10_isCells_0 17 rfl rfl)
theorem dX10_isCells_18 : decode cX10_isCells 18 = .ok (.iaload, 1) := dk_46 (dk_at dksX10_isCells_0 18 rfl rfl)
theorem dX10_isCells_19 : decode cX10_isCells 19 = .ok (.invokestatic 171, 3) := dk_184 0 171 (dk_at dksX10_isCells_0 19 rfl rfl)
theorem dX10_isCells_22 : decode cX10_isCells 22 = .ok (.ifCond .ne 5, 3) := dk_154 0 5 (dk_at dksX10_isCells_1 0 rfl rfl)
theorem dX10_isCells_25 : decode cX10_isCells 25 = .ok (.iconst 0, 1) := dk_3 (dk_at dksX10_isCells_1 3 rfl rfl)
theorem dX10_isCells_26 : decode cX10_isCells 26 = .ok (.ireturn, 1) := dk_172 (dk_at dksX10_isCells_1 4 rfl rfl)
theorem dX10_isCells_27 : decode cX10_isCells 27 = .ok (.iinc 1 1, 3) := dk_132 1 1 (dk_at dksX10_isCells_1 5 rfl rfl)
theorem dX10_isCells_30 : decode cX10_isCells 30 = .ok (.goto (-25), 3) := dk_167 255 231 (dk_at dksX10_isCells_1 8 rfl rfl)
theorem dX10_isCells_33 : decode cX10_isCells 33 = .ok (.iconst 1, 1) := dk_4 (dk_at dksX10_isCells_1 11 rfl rfl)
theorem dX10_isCells_34 : decode cX10_isCells 34 = .ok (.ireturn, 1) := dk_172 (dk_at dksX10_isCells_1 12 rfl rfl)
theorem dn_X10_isCells : yX10_isCells.cls ≠ "java/lang/invoke/MethodHandle" ∧ yX10_isCells.cls ≠ "java/lang/invoke/VarHandle" ∧ (parseMethodDescriptor yX10_isCells.desc).map (fun d => d.parameters.length) = some 0 := by decide +kernel
noncomputable def M_X10_isCells  : TM Bool := TM.bind (tI 6) (fun v1 => TM.loop (S := Int32) (fun s2 => TM.bind (tI 5) (fun v5 => if v5 ≤ s2 then TM.pure (Sum.inr true) else TM.bind (tA 1 940 s2) (fun v6 => TM.bind (M_X10_isCellLetter v6) (fun v7 => cond v7 (TM.lv (s2 + 1) (fun v8 => TM.pure (Sum.inl v8))) (TM.pure (Sum.inr false)))))) v1)
set_option maxHeartbeats 4000000 in
theorem ct_X10_isCells (G : gG) (am : Nat)  : gCtM G am yX10_isCells cX10_isCells 2 (some .boolean) 1 20 [.ref am] (M_X10_isCells) (fun x : Bool => some (.int (b2i x))) := by
  refine gCtM.of (by decide) (Nat.le_of_ble_eq_true rfl) (fun K hn ms ms' r hG X hK hd ho => ?_)
  subst hG
  have X : gX K cX10_isCells 2 "BitingDoorsModel" "isCells" (some .boolean) 1 20 := X
  show V K 2 (mkM am hn ms) 0 [(0, .ref am)] []
  unfold M_X10_isCells at hd
  refine v_aload_n X dX10_isCells_0 0 0 rfl rfl ?_
  refine t_getI X hd rfl fl_X10_125 dX10_isCells_1 (fun v1 hd => ?_)
  refine v_istore_n (lv2 := [(1, .int v1), (0, .ref am)]) X dX10_isCells_4 1 rfl (by decide) rfl ?_
  refine v_loc [1, 0] rfl ?_
  refine Tloop_ind hd (fun (s2 : Int32) m => V K 2 (mkM am hn m) 5 [(0, .ref am), (1, .int s2)] []) (fun s2 ms x m2 hd ih3 ho4 => ?_)
  refine v_iload_n X dX10_isCells_5 1 1 rfl rfl ?_
  refine v_aload_n X dX10_isCells_6 0 0 rfl rfl ?_
  refine t_getI X hd rfl fl_X10_122 dX10_isCells_7 (fun v5 hd => ?_)
  refine v_icmp_ge (tgt := 33) X dX10_isCells_10 (by decide) (fun q => ?_) (fun q => ?_)
  · have hd := Tite_t q hd
    refine v_iconst (v := 1) X dX10_isCells_33 (by decide) ?_
    have hd := Tlp_out hd ho4
    exact t_zret X hK hd rfl ho dX10_isCells_34
  · have hd := Tite_f q hd
    refine v_aload_n X dX10_isCells_13 0 0 rfl rfl ?_
    refine t_getA (j := 0) X rfl fl_X10_7 dX10_isCells_14 ?_
    refine v_iload_n X dX10_isCells_17 1 1 rfl rfl ?_
    refine t_iald (j := 0) X hd rfl dX10_isCells_18 (fun v6 hd => ?_)
    refine t_callS X hK hd (ct_X10_isCellLetter _ am v6) (lw_S q1921 q1922 q120 q1923) dn_X10_isCellLetter rfl ⟨by decide, by decide⟩ rfl (Nat.le_of_ble_eq_true rfl) dX10_isCells_19 (fun v7 ms hd => ?_)
    show V K 2 (mkM am hn ms) 22 [(0, .ref am), (1, .int s2)] [.int (b2i v7)]
    refine v_ifZ_ne (tgt := 27) X dX10_isCells_22 (by decide) (fun q => ?_) (fun q => ?_)
    · have hd := Tcnd_t q hd
      refine t_iincL (lv2 := fun v8 => [(1, .int v8), (0, .ref am)]) X hd dX10_isCells_27 1 rfl (by decide : Int32.ofInt 1 = 1) (by decide) (fun v8 => rfl) (fun v8 hd => ?_)
      refine v_goto (tgt := 5) X dX10_isCells_30 (by decide) ?_
      exact v_loc [1, 0] rfl (Tlp_in (P := fun (s2 : Int32) m => V K 2 (mkM am hn m) 5 [(0, .ref am), (1, .int s2)] []) hd ih3)
    · have hd := Tcnd_f q hd
      refine v_iconst (v := 0) X dX10_isCells_25 (by decide) ?_
      have hd := Tlp_out hd ho4
      exact t_zret X hK hd rfl ho dX10_isCells_26
def dkwX10_isName_2 : List UInt8 := [172]
abbrev dktX10_isName_2 : List UInt8 := dkwX10_isName_2 ++ []
def dkwX10_isName_1 : List UInt8 := [163, 0, 23, 42, 180, 0, 144, 27, 184, 0, 167, 148, 154, 0, 5, 3, 172, 132, 1, 1, 167, 255, 233, 4]
abbrev dktX10_isName_1 : List UInt8 := dkwX10_isName_1 ++ dktX10_isName_2
def dkwX10_isName_0 : List UInt8 := [42, 180, 0, 131, 5, 160, 0, 10, 42, 182, 0, 174, 153, 0, 5, 3, 172, 3, 60, 27, 16, 25]
abbrev dktX10_isName_0 : List UInt8 := dkwX10_isName_0 ++ dktX10_isName_1
theorem dksX10_isName_0 : cX10_isName.data.toList.drop 0 = dktX10_isName_0 := by decide +kernel
theorem dksX10_isName_1 : cX10_isName.data.toList.drop 22 = dktX10_isName_1 := dk_seg dksX10_isName_0 22 rfl rfl
theorem dksX10_isName_2 : cX10_isName.data.toList.drop 46 = dktX10_isName_2 := dk_seg dksX10_isName_1 24 rfl rfl
theorem dX10_isName_0 : decode cX10_isName 0 = .ok (.aload_n 0, 1) := dk_42 (dk_at dksX10_isName_0 0 rfl rfl)
theorem dX10_isName_1 : decode cX10_isName 1 = .ok (.getfield 131, 3) := dk_180 0 131 (dk_at dksX10_isName_0 1 rfl rfl)
theorem dX10_isName_4 : decode cX10_isName 4 = .ok (.iconst 2, 1) := dk_5 (dk_at dksX10_isName_0 4 rfl rfl)
theorem dX10_isName_5 : decode cX10_isName 5 = .ok (.if_icmp .ne 10, 3) := dk_160 0 10 (dk_at dksX10_isName_0 5 rfl rfl)
theorem dX10_isName_8 : decode cX10_isName 8 = .ok (.aload_n 0, 1) := dk_42 (dk_at dksX10_isName_0 8 rfl rfl)
theorem dX10_isName_9 : decode cX10_isName 9 = .ok (.invokevirtual 174, 3) := dk_182 0 174 (dk_at dksX10_isName_0 9 rfl rfl)
theorem dX10_isName_12 : decode cX10_isName 12 = .ok (.ifCond .eq 5, 3) := dk_153 0 5 (dk_at dksX10_isName_0 12 rfl rfl)
theorem dX10_isName_15 : decode cX10_isName 15 = .ok (.iconst 0, 1) := dk_3 (dk_at dksX10_isName_0 15 rfl rfl)
theorem dX10_isName_16 : decode cX10_isName 16 = .ok (.ireturn, 1) := dk_172 (dk_at dksX10_isName_0 16 rfl rfl)
theorem dX10_isName_17 : decode cX10_isName 17 = .ok (.iconst 0, 1) := dk_3 (dk_at dksX10_isName_0 17 rfl rfl)
theorem dX10_isName_18 : decode cX10_isName 18 = .ok (.istore_n 1, 1) := dk_60 (dk_at dksX10_isName_0 18 rfl rfl)
theorem dX10_isName_19 : decode cX10_isName 19 = .ok (.iload_n 1, 1) := dk_27 (dk_at dksX10_isName_0 19 rfl rfl)
theorem dX10_isName_20 : decode cX10_isName 20 = .ok (.bipush 25, 2) := dk_16 25 (dk_at dksX10_isName_0 20 rfl rfl)
theorem dX10_isName_22 : decode cX10_isName 22 = .ok (.if_icmp .gt 23, 3) := dk_163 0 23 (dk_at dksX10_isName_1 0 rfl rfl)
theorem dX10_isName_25 : decode cX10_isName 25 = .ok (.aload_n 0, 1) := dk_42 (dk_at dksX10_isName_1 3 rfl rfl)
theorem dX10_isName_26 : decode cX10_isName 26 = .ok (.getfield 144, 3) := dk_180 0 144 (dk_at dksX10_isName_1 4 rfl rfl)
theorem dX10_isName_29 : decode cX10_isName 29 = .ok (.iload_n 1, 1) := dk_27 (dk_at dksX10_isName_1 7 rfl rfl)
theorem dX10_isName_30 : decode cX10_isName 30 = .ok (.invokestatic 167, 3) := dk_184 0 167 (dk_at dksX10_isName_1 8 rfl rfl)
theorem dX10_isName_33 : decode cX10_isName 33 = .ok (.lcmp, 1) := dk_148 (dk_at dksX10_isName_1 11 rfl rfl)
theorem dX10_isName_34 : decode cX10_isName 34 = .ok (.ifCond .ne 5, 3) := dk_154 0 5 (dk_at dksX10_isName_1 12 rfl rfl)
theorem dX10_isName_37 : decode cX10_isName 37 = .ok (.iconst 0, 1) := dk_3 (dk_at dksX10_isName_1 15 rfl rfl)
theorem dX10_isName_38 : decode cX10_isName 38 = .ok (.ireturn, 1) := dk_172 (dk_at dksX10_isName_1 16 rfl rfl)
theorem dX10_isName_39 : decode cX10_isName 39 = .ok (.iinc 1 1, 3) := dk_132 1 1 (dk_at dksX10_isName_1 17 rfl rfl)
theorem dX10_isName_42 : decode cX10_isName 42 = .ok (.goto (-23), 3) := dk_167 255 233 (dk_at dksX10_isName_1 20 rfl rfl)
theorem dX10_isName_45 : decode cX10_isName 45 = .ok (.iconst 1, 1) := dk_4 (dk_at dksX10_isName_1 23 rfl rfl)
theorem dX10_isName_46 : decode cX10_isName 46 = .ok (.ireturn, 1) := dk_172 (dk_at dksX10_isName_2 0 rfl rfl)
theorem dn_X10_isName : yX10_isName.cls ≠ "java/lang/invoke/MethodHandle" ∧ yX10_isName.cls ≠ "java/lang/invoke/VarHandle" ∧ (parseMethodDescriptor yX10_isName.desc).map (fun d => d.parameters.length) = some 0 := by decide +kernel
noncomputable def M_X10_isName  : TM Bool := TM.bind (tI 7) (fun v1 => if v1 = 2 then TM.bind (M_X10_isCells) (fun v2 => cond v2 (TM.pure false) (TM.loop (S := Int32) (fun s3 => if 25 < s3 then TM.pure (Sum.inr true) else TM.bind (tL 12) (fun v6 => TM.bind (M_X10_wordOf s3) (fun v7 => if (lg_cmp v6 v7) = 0 then TM.pure (Sum.inr false) else TM.lv (s3 + 1) (fun v8 => TM.pure (Sum.inl v8))))) 0)) else TM.pure false)
set_option maxHeartbeats 4000000 in
theorem ct_X10_isName (G : gG) (am : Nat)  : gCtM G am yX10_isName cX10_isName 2 (some .boolean) 2 46 [.ref am] (M_X10_isName) (fun x : Bool => some (.int (b2i x))) := by
  refine gCtM.of (by decide) (Nat.le_of_ble_eq_true rfl) (fun K hn ms ms' r hG X hK hd ho => ?_)
  subst hG
  have X : gX K cX10_isName 2 "BitingDoorsModel" "isName" (some .boolean) 2 46 := X
  show V K 2 (mkM am hn ms) 0 [(0, .ref am)] []
  unfold M_X10_isName at hd
  refine v_aload_n X dX10_isName_0 0 0 rfl rfl ?_
  refine t_getI X hd rfl fl_X10_131 dX10_isName_1 (fun v1 hd => ?_)
  refine v_iconst (v := 2) X dX10_isName_4 (by decide) ?_
  refine v_icmp_ne (tgt := 15) X dX10_isName_5 (by decide) (fun q => ?_) (fun q => ?_)
  · have hd := Tite_f q hd
    refine v_iconst (v := 0) X dX10_isName_15 (by decide) ?_
    exact t_zret X hK hd rfl ho dX10_isName_16
  · have hd := Tite_t q hd
    refine v_aload_n X dX10_isName_8 0 0 rfl rfl ?_
    refine t_callV X hK hd (ct_X10_isCells _ am) (lw_V q1917 q1919 qs45 q120 q1920) ⟨rfl, dn_X10_isCells⟩ rfl ⟨by decide, by decide⟩ rfl (Nat.le_of_ble_eq_true rfl) dX10_isName_9 (fun v2 ms hd => ?_)
    show V K 2 (mkM am hn ms) 12 [(0, .ref am)] [.int (b2i v2)]
    refine v_ifZ_eq (tgt := 17) X dX10_isName_12 (by decide) (fun q => ?_) (fun q => ?_)
    · have hd := Tcnd_f q hd
      refine v_iconst (v := 0) X dX10_isName_17 (by decide) ?_
      refine v_istore_n (lv2 := [(1, .int 0), (0, .ref am)]) X dX10_isName_18 1 rfl (by decide) rfl ?_
      refine v_loc [1, 0] rfl ?_
      refine Tloop_ind hd (fun (s3 : Int32) m => V K 2 (mkM am hn m) 19 [(0, .ref am), (1, .int s3)] []) (fun s3 ms x m2 hd ih4 ho5 => ?_)
      refine v_iload_n X dX10_isName_19 1 1 rfl rfl ?_
      refine v_bipush (v := 25) X dX10_isName_20 (by decide) ?_
      refine v_icmp_gt (tgt := 45) X dX10_isName_22 (by decide) (fun q => ?_) (fun q => ?_)
      · have hd := Tite_t q hd
        refine v_iconst (v := 1) X dX10_isName_45 (by decide) ?_
        have hd := Tlp_out hd ho5
        exact t_zret X hK hd rfl ho dX10_isName_46
      · have hd := Tite_f q hd
        refine v_aload_n X dX10_isName_25 0 0 rfl rfl ?_
        refine t_getL X hd rfl fl_X10_144 dX10_isName_26 (fun v6 hd => ?_)
        refine v_iload_n X dX10_isName_29 1 1 rfl rfl ?_
        refine t_callS X hK hd (ct_X10_wordOf _ am s3) (lw_S q1900 q1901 q120 q1902) dn_X10_wordOf rfl ⟨by decide, by decide⟩ rfl (Nat.le_of_ble_eq_true rfl) dX10_isName_30 (fun v7 ms hd => ?_)
        show V K 2 (mkM am hn ms) 33 [(0, .ref am), (1, .int s3)] [.long v7, .long v6]
        refine v_lcmp X dX10_isName_33 ?_
        refine v_if_ne (tgt := 39) X dX10_isName_34 (by decide) (fun q => ?_) (fun q => ?_)
        · have hd := Tite_f q hd
          refine t_iincL (lv2 := fun v8 => [(1, .int v8), (0, .ref am)]) X hd dX10_isName_39 1 rfl (by decide : Int32.ofInt 1 = 1) (by decide) (fun v8 => rfl) (fun v8 hd => ?_)
          refine v_goto (tgt := 19) X dX10_isName_42 (by decide) ?_
          exact v_loc [1, 0] rfl (Tlp_in (P := fun (s3 : Int32) m => V K 2 (mkM am hn m) 19 [(0, .ref am), (1, .int s3)] []) hd ih4)
        · have hd := Tite_t q hd
          refine v_iconst (v := 0) X dX10_isName_37 (by decide) ?_
          have hd := Tlp_out hd ho5
          exact t_zret X hK hd rfl ho dX10_isName_38
    · have hd := Tcnd_t q hd
      refine v_iconst (v := 0) X dX10_isName_15 (by decide) ?_
      exact t_zret X hK hd rfl ho dX10_isName_16
def dkwX10_readBites_3 : List UInt8 := [182, 0, 194, 4, 172]
abbrev dktX10_readBites_3 : List UInt8 := dkwX10_readBites_3 ++ []
def dkwX10_readBites_2 : List UInt8 := [160, 0, 9, 42, 6, 182, 0, 184, 172, 42, 42, 16, 7, 27, 3, 3, 182, 1, 188, 181, 1, 185, 42]
abbrev dktX10_readBites_2 : List UInt8 := dkwX10_readBites_2 ++ dktX10_readBites_3
def dkwX10_readBites_1 : List UInt8 := [180, 0, 25, 27, 47, 42, 180, 0, 144, 148, 153, 0, 9, 132, 1, 1, 167, 255, 231, 27, 42, 182, 0, 211]
abbrev dktX10_readBites_1 : List UInt8 := dkwX10_readBites_1 ++ dktX10_readBites_2
def dkwX10_readBites_0 : List UInt8 := [42, 182, 0, 214, 154, 0, 9, 42, 4, 182, 0, 184, 172, 3, 60, 27, 42, 182, 0, 211, 162, 0, 23, 42]
abbrev dktX10_readBites_0 : List UInt8 := dkwX10_readBites_0 ++ dktX10_readBites_1
theorem dksX10_readBites_0 : cX10_readBites.data.toList.drop 0 = dktX10_readBites_0 := by decide +kernel
theorem dksX10_readBites_1 : cX10_readBites.data.toList.drop 24 = dktX10_readBites_1 := dk_seg dksX10_readBites_0 24 rfl rfl
theorem dksX10_readBites_2 : cX10_readBites.data.toList.drop 48 = dktX10_readBites_2 := dk_seg dksX10_readBites_1 24 rfl rfl
theorem dksX10_readBites_3 : cX10_readBites.data.toList.drop 71 = dktX10_readBites_3 := dk_seg dksX10_readBites_2 23 rfl rfl
theorem dX10_readBites_0 : decode cX10_readBites 0 = .ok (.aload_n 0, 1) := dk_42 (dk_at dksX10_readBites_0 0 rfl rfl)
theorem dX10_readBites_1 : decode cX10_readBites 1 = .ok (.invokevirtual 214, 3) := dk_182 0 214 (dk_at dksX10_readBites_0 1 rfl rfl)
theorem dX10_readBites_4 : decode cX10_readBites 4 = .ok (.ifCond .ne 9, 3) := dk_154 0 9 (dk_at dksX10_readBites_0 4 rfl rfl)
theorem dX10_readBites_7 : decode cX10_readBites 7 = .ok (.aload_n 0, 1) := dk_42 (dk_at dksX10_readBites_0 7 rfl rfl)
theorem dX10_readBites_8 : decode cX10_readBites 8 = .ok (.iconst 1, 1) := dk_4 (dk_at dksX10_readBites_0 8 rfl rfl)
theorem dX10_readBites_9 : decode cX10_readBites 9 = .ok (.invokevirtual 184, 3) := dk_182 0 184 (dk_at dksX10_readBites_0 9 rfl rfl)
theorem dX10_readBites_12 : decode cX10_readBites 12 = .ok (.ireturn, 1) := dk_172 (dk_at dksX10_readBites_0 12 rfl rfl)
theorem dX10_readBites_13 : decode cX10_readBites 13 = .ok (.iconst 0, 1) := dk_3 (dk_at dksX10_readBites_0 13 rfl rfl)
theorem dX10_readBites_14 : decode cX10_readBites 14 = .ok (.istore_n 1, 1) := dk_60 (dk_at dksX10_readBites_0 14 rfl rfl)
theorem dX10_readBites_15 : decode cX10_readBites 15 = .ok (.iload_n 1, 1) := dk_27 (dk_at dksX10_readBites_0 15 rfl rfl)
theorem dX10_readBites_16 : decode cX10_readBites 16 = .ok (.aload_n 0, 1) := dk_42 (dk_at dksX10_readBites_0 16 rfl rfl)
theorem dX10_readBites_17 : decode cX10_readBites 17 = .ok (.invokevirtual 211, 3) := dk_182 0 211 (dk_at dksX10_readBites_0 17 rfl rfl)
theorem dX10_readBites_20 : decode cX10_readBites 20 = .ok (.if_icmp .ge 23, 3) := dk_162 0 23 (dk_at dksX10_readBites_0 20 rfl rfl)
theorem dX10_readBites_23 : decode cX10_readBites 23 = .ok (.aload_n 0, 1) := dk_42 (dk_at dksX10_readBites_0 23 rfl rfl)
theorem dX10_readBites_24 : decode cX10_readBites 24 = .ok (.getfield 25, 3) := dk_180 0 25 (dk_at dksX10_readBites_1 0 rfl rfl)
theorem dX10_readBites_27 : decode cX10_readBites 27 = .ok (.iload_n 1, 1) := dk_27 (dk_at dksX10_readBites_1 3 rfl rfl)
theorem dX10_readBites_28 : decode cX10_readBites 28 = .ok (.laload, 1) := dk_47 (dk_at dksX10_readBites_1 4 rfl rfl)
theorem dX10_readBites_29 : decode cX10_readBites 29 = .ok (.aload_n 0, 1) := dk_42 (dk_at dksX10_readBites_1 5 rfl rfl)
theorem dX10_readBites_30 : decode cX10_readBites 30 = .ok (.getfield 144, 3) := dk_180 0 144 (dk_at dksX10_readBites_1 6 rfl rfl)
theorem dX10_readBites_33 : decode cX10_readBites 33 = .ok (.lcmp, 1) := dk_148 (dk_at dksX10_readBites_1 9 rfl rfl)
theorem dX10_readBites_34 : decode cX10_readBites 34 = .ok (.ifCond .eq 9, 3) := dk_153 0 9 (dk_at dksX10_readBites_1 10 rfl rfl)
theorem dX10_readBites_37 : decode cX10_readBites 37 = .ok (.iinc 1 1, 3) := dk_132 1 1 (dk_at dksX10_readBites_1 13 rfl rfl)
theorem dX10_readBites_40 : decode cX10_readBites 40 = .ok (.goto (-25), 3) := dk_167 255 231 (dk_at dksX10_readBites_1 16 rfl rfl)
theorem dX10_readBites_43 : decode cX10_readBites 43 = .ok (.iload_n 1, 1) := dk_27 (dk_at dksX10_readBites_1 19 rfl rfl)
theorem dX10_readBites_44 : decode cX10_readBites 44 = .ok (.aload_n 0, 1) := dk_42 (dk_at dksX10_readBites_1 20 rfl rfl)
theorem dX10_readBites_45 : decode cX10_readBites 45 = .ok (.invokevirtual 211, 3) := dk_182 0 211 (dk_at dksX10_readBites_1 21 rfl rfl)
theorem dX10_readBites_48 : decode cX10_readBites 48 = .ok (.if_icmp .ne 9, 3) := dk_160 0 9 (dk_at dksX10_readBites_2 0 rfl rfl)
theorem dX10_readBites_51 : decode cX10_readBites 51 = .ok (.aload_n 0, 1) := dk_42 (dk_at dksX10_readBites_2 3 rfl rfl)
theorem dX10_readBites_52 : decode cX10_readBites 52 = .ok (.iconst 3, 1) := dk_6 (dk_at dksX10_readBites_2 4 rfl rfl)
theorem dX10_readBites_53 : decode cX10_readBites 53 = .ok (.invokevirtual 184, 3) := dk_182 0 184 (dk_at dksX10_readBites_2 5 rfl rfl)
theorem dX10_readBites_56 : decode cX10_readBites 56 = .ok (.ireturn, 1) := dk_172 (dk_at dksX10_readBites_2 8 rfl rfl)
theorem dX10_readBites_57 : decode cX10_readBites 57 = .ok (.aload_n 0, 1) := dk_42 (dk_at dksX10_readBites_2 9 rfl rfl)
theorem dX10_readBites_58 : decode cX10_readBites 58 = .ok (.aload_n 0, 1) := dk_42 (dk_at dksX10_readBites_2 10 rfl rfl)
theorem dX10_readBites_59 : decode cX10_readBites 59 = .ok (.bipush 7, 2) := dk_16 7 (dk_at dksX10_readBites_2 11 rfl rfl)
theorem dX10_readBites_61 : decode cX10_readBites 61 = .ok (.iload_n 1, 1) := dk_27 (dk_at dksX10_readBites_2 13 rfl rfl)
theorem dX10_readBites_62 : decode cX10_readBites 62 = .ok (.iconst 0, 1) := dk_3 (dk_at dksX10_readBites_2 14 rfl rfl)
theorem dX10_readBites_63 : decode cX10_readBites 63 = .ok (.iconst 0, 1) := dk_3 (dk_at dksX10_readBites_2 15 rfl rfl)
theorem dX10_readBites_64 : decode cX10_readBites 64 = .ok (.invokevirtual 444, 3) := dk_182 1 188 (dk_at dksX10_readBites_2 16 rfl rfl)
theorem dX10_readBites_67 : decode cX10_readBites 67 = .ok (.putfield 441, 3) := dk_181 1 185 (dk_at dksX10_readBites_2 19 rfl rfl)
theorem dX10_readBites_70 : decode cX10_readBites 70 = .ok (.aload_n 0, 1) := dk_42 (dk_at dksX10_readBites_2 22 rfl rfl)
theorem dX10_readBites_71 : decode cX10_readBites 71 = .ok (.invokevirtual 194, 3) := dk_182 0 194 (dk_at dksX10_readBites_3 0 rfl rfl)
theorem dX10_readBites_74 : decode cX10_readBites 74 = .ok (.iconst 1, 1) := dk_4 (dk_at dksX10_readBites_3 3 rfl rfl)
theorem dX10_readBites_75 : decode cX10_readBites 75 = .ok (.ireturn, 1) := dk_172 (dk_at dksX10_readBites_3 4 rfl rfl)
theorem fl_X10_25 : gFl "BitingDoorsModel" 25 [8] 18 := by
  intro args s hts hN ci hc
  simp only [List.mem_cons, List.not_mem_nil, or_false] at hc
  subst hc
  exact ⟨RX10, TX10, 64, "BitingDoorsModel", gCl_X10, in_X10, by decide, Or.inl (hts _ q1668), fun _ h => h⟩
theorem fp_X10_441 {nm : String} : gFp "BitingDoorsModel" nm 441 [8] 63 .int := by
  intro args s hts hN ci hc
  simp only [List.mem_cons, List.not_mem_nil, or_false] at hc
  subst hc
  exact ⟨RX10, TX10, 64, "BitingDoorsModel", gCl_X10, in_X10, by decide, Or.inl ⟨rfl, Or.inl (hts _ q1713)⟩, fun _ h => h, rfl, fun D tys hK => gap_X10 hts hK⟩
theorem dn_X10_readBites : yX10_readBites.cls ≠ "java/lang/invoke/MethodHandle" ∧ yX10_readBites.cls ≠ "java/lang/invoke/VarHandle" ∧ (parseMethodDescriptor yX10_readBites.desc).map (fun d => d.parameters.length) = some 0 := by decide +kernel
noncomputable def M_X10_readBites  : TM Bool := TM.bind (M_X10_isName) (fun v1 => cond v1 (TM.bind (TM.loop (S := Int32) (E := Int32) (fun s2 => TM.bind (M_X10_doors) (fun v6 => if v6 ≤ s2 then TM.pure (Sum.inr s2) else TM.bind (tB 18 10 s2) (fun v7 => TM.bind (tL 12) (fun v8 => if (lg_cmp v7 v8) = 0 then TM.pure (Sum.inr s2) else TM.lv (s2 + 1) (fun v9 => TM.pure (Sum.inl v9)))))) 0) (fun e5 => TM.bind (M_X10_doors) (fun v10 => if e5 = v10 then TM.bind (M_X10_bad 3) (fun v13 => TM.pure v13) else TM.bind (M_X10_lays 7 e5 0 0) (fun v11 => TM.bind (sI 63 v11) (fun _ => TM.bind (M_X10_go) (fun v12 => TM.pure true)))))) (TM.bind (M_X10_bad 1) (fun v14 => TM.pure v14)))
set_option maxHeartbeats 4000000 in
theorem ct_X10_readBites (G : gG) (am : Nat)  : gCtM G am yX10_readBites cX10_readBites 2 (some .boolean) 3 67 [.ref am] (M_X10_readBites) (fun x : Bool => some (.int (b2i x))) := by
  refine gCtM.of (by decide) (Nat.le_of_ble_eq_true rfl) (fun K hn ms ms' r hG X hK hd ho => ?_)
  subst hG
  have X : gX K cX10_readBites 2 "BitingDoorsModel" "readBites" (some .boolean) 3 67 := X
  show V K 2 (mkM am hn ms) 0 [(0, .ref am)] []
  unfold M_X10_readBites at hd
  refine v_aload_n X dX10_readBites_0 0 0 rfl rfl ?_
  refine t_callV X hK hd (ct_X10_isName _ am) (lw_V q1928 q1930 qs47 q120 q1931) ⟨rfl, dn_X10_isName⟩ rfl ⟨by decide, by decide⟩ rfl (Nat.le_of_ble_eq_true rfl) dX10_readBites_1 (fun v1 ms hd => ?_)
  show V K 2 (mkM am hn ms) 4 [(0, .ref am)] [.int (b2i v1)]
  refine v_ifZ_ne (tgt := 13) X dX10_readBites_4 (by decide) (fun q => ?_) (fun q => ?_)
  · have hd := Tcnd_t q hd
    refine v_iconst (v := 0) X dX10_readBites_13 (by decide) ?_
    refine v_istore_n (lv2 := [(1, .int 0), (0, .ref am)]) X dX10_readBites_14 1 rfl (by decide) rfl ?_
    obtain ⟨e5, m1, hd, hd2⟩ := TM.bind_some hd
    have KX : V K 2 (mkM am hn m1) 43 [(0, .ref am), (1, .int e5)] [] := by
      clear hd
      have hd := hd2
      refine v_iload_n X dX10_readBites_43 1 1 rfl rfl ?_
      refine v_aload_n X dX10_readBites_44 0 0 rfl rfl ?_
      refine t_callV X hK hd (ct_X10_doors _ am) (lw_V q1986 q1988 qs57 q120 q1989) ⟨rfl, dn_X10_doors⟩ rfl ⟨by decide, by decide⟩ rfl (Nat.le_of_ble_eq_true rfl) dX10_readBites_45 (fun v10 ms hd => ?_)
      show V K 2 (mkM am hn ms) 48 [(0, .ref am), (1, .int e5)] [.int v10, .int e5]
      refine v_icmp_ne (tgt := 57) X dX10_readBites_48 (by decide) (fun q => ?_) (fun q => ?_)
      · have hd := Tite_f q hd
        refine v_aload_n X dX10_readBites_57 0 0 rfl rfl ?_
        refine v_aload_n X dX10_readBites_58 0 0 rfl rfl ?_
        refine v_bipush (v := 7) X dX10_readBites_59 (by decide) ?_
        refine v_iload_n X dX10_readBites_61 1 1 rfl rfl ?_
        refine v_iconst (v := 0) X dX10_readBites_62 (by decide) ?_
        refine v_iconst (v := 0) X dX10_readBites_63 (by decide) ?_
        refine t_callV X hK hd (ct_X10_lays _ am 7 e5 0 0) (lw_V q2304 q2306 qs103 q120 q2307) ⟨rfl, dn_X10_lays⟩ rfl ⟨by decide, by decide⟩ rfl (Nat.le_of_ble_eq_true rfl) dX10_readBites_64 (fun v11 ms hd => ?_)
        show V K 2 (mkM am hn ms) 67 [(0, .ref am), (1, .int e5)] [.int v11, .ref am]
        refine t_putI X hd rfl fp_X10_441 dX10_readBites_67 (fun ms hd => ?_)
        refine v_aload_n X dX10_readBites_70 0 0 rfl rfl ?_
        refine t_callV X hK hd (ct_X10_go _ am) (lw_V q1876 q1878 qs39 q120 q1879) ⟨rfl, dn_X10_go⟩ rfl ⟨by decide, by decide⟩ rfl (Nat.le_of_ble_eq_true rfl) dX10_readBites_71 (fun v12 ms hd => ?_)
        show V K 2 (mkM am hn ms) 74 [(0, .ref am), (1, .int e5)] []
        refine v_iconst (v := 1) X dX10_readBites_74 (by decide) ?_
        exact t_zret X hK hd rfl ho dX10_readBites_75
      · have hd := Tite_t q hd
        refine v_aload_n X dX10_readBites_51 0 0 rfl rfl ?_
        refine v_iconst (v := 3) X dX10_readBites_52 (by decide) ?_
        refine t_callV X hK hd (ct_X10_bad _ am 3) (lw_V q1913 q1915 qs44 q120 q1916) ⟨rfl, dn_X10_bad⟩ rfl ⟨by decide, by decide⟩ rfl (Nat.le_of_ble_eq_true rfl) dX10_readBites_53 (fun v13 ms hd => ?_)
        show V K 2 (mkM am hn ms) 56 [(0, .ref am), (1, .int e5)] [.int (b2i v13)]
        exact t_zret X hK hd rfl ho dX10_readBites_56
    clear hd2
    refine v_loc [1, 0] rfl ?_
    refine Tloop_ind hd (fun (s2 : Int32) m => V K 2 (mkM am hn m) 15 [(0, .ref am), (1, .int s2)] []) (fun s2 ms x m2 hd ih3 ho4 => ?_)
    refine v_iload_n X dX10_readBites_15 1 1 rfl rfl ?_
    refine v_aload_n X dX10_readBites_16 0 0 rfl rfl ?_
    refine t_callV X hK hd (ct_X10_doors _ am) (lw_V q1986 q1988 qs57 q120 q1989) ⟨rfl, dn_X10_doors⟩ rfl ⟨by decide, by decide⟩ rfl (Nat.le_of_ble_eq_true rfl) dX10_readBites_17 (fun v6 ms hd => ?_)
    show V K 2 (mkM am hn ms) 20 [(0, .ref am), (1, .int s2)] [.int v6, .int s2]
    refine v_icmp_ge (tgt := 43) X dX10_readBites_20 (by decide) (fun q => ?_) (fun q => ?_)
    · have hd := Tite_t q hd
      exact v_loc [0, 1] rfl (t_at (P := fun (e5 : Int32) m => V K 2 (mkM am hn m) 43 [(0, .ref am), (1, .int e5)] []) (Tlp_out hd ho4) KX)
    · have hd := Tite_f q hd
      refine v_aload_n X dX10_readBites_23 0 0 rfl rfl ?_
      refine t_getA (j := 5) X rfl fl_X10_25 dX10_readBites_24 ?_
      refine v_iload_n X dX10_readBites_27 1 1 rfl rfl ?_
      refine t_lald (j := 5) X hd rfl dX10_readBites_28 (fun v7 hd => ?_)
      refine v_aload_n X dX10_readBites_29 0 0 rfl rfl ?_
      refine t_getL X hd rfl fl_X10_144 dX10_readBites_30 (fun v8 hd => ?_)
      refine v_lcmp X dX10_readBites_33 ?_
      refine v_if_eq (tgt := 43) X dX10_readBites_34 (by decide) (fun q => ?_) (fun q => ?_)
      · have hd := Tite_t q hd
        exact v_loc [0, 1] rfl (t_at (P := fun (e5 : Int32) m => V K 2 (mkM am hn m) 43 [(0, .ref am), (1, .int e5)] []) (Tlp_out hd ho4) KX)
      · have hd := Tite_f q hd
        refine t_iincL (lv2 := fun v9 => [(1, .int v9), (0, .ref am)]) X hd dX10_readBites_37 1 rfl (by decide : Int32.ofInt 1 = 1) (by decide) (fun v9 => rfl) (fun v9 hd => ?_)
        refine v_goto (tgt := 15) X dX10_readBites_40 (by decide) ?_
        exact v_loc [1, 0] rfl (Tlp_in (P := fun (s2 : Int32) m => V K 2 (mkM am hn m) 15 [(0, .ref am), (1, .int s2)] []) hd ih3)
  · have hd := Tcnd_f q hd
    refine v_aload_n X dX10_readBites_7 0 0 rfl rfl ?_
    refine v_iconst (v := 1) X dX10_readBites_8 (by decide) ?_
    refine t_callV X hK hd (ct_X10_bad _ am 1) (lw_V q1913 q1915 qs44 q120 q1916) ⟨rfl, dn_X10_bad⟩ rfl ⟨by decide, by decide⟩ rfl (Nat.le_of_ble_eq_true rfl) dX10_readBites_9 (fun v14 ms hd => ?_)
    show V K 2 (mkM am hn ms) 12 [(0, .ref am)] [.int (b2i v14)]
    exact t_zret X hK hd rfl ho dX10_readBites_12
def dkwX10_readNumber_1 : List UInt8 := [154, 0, 9, 42, 5, 182, 0, 184, 172, 42, 42, 180, 0, 148, 181, 0, 191, 42, 182, 0, 194, 4, 172]
abbrev dktX10_readNumber_1 : List UInt8 := dkwX10_readNumber_1 ++ []
def dkwX10_readNumber_0 : List UInt8 := [42, 180, 0, 131, 6, 159, 0, 9, 42, 4, 182, 0, 184, 172, 42, 180, 0, 148, 27, 28, 184, 0, 187]
abbrev dktX10_readNumber_0 : List UInt8 := dkwX10_readNumber_0 ++ dktX10_readNumber_1
theorem dksX10_readNumber_0 : cX10_readNumber.data.toList.drop 0 = dktX10_readNumber_0 := by decide +kernel
theorem dksX10_readNumber_1 : cX10_readNumber.data.toList.drop 23 = dktX10_readNumber_1 := dk_seg dksX10_readNumber_0 23 rfl rfl
theorem dX10_readNumber_0 : decode cX10_readNumber 0 = .ok (.aload_n 0, 1) := dk_42 (dk_at dksX10_readNumber_0 0 rfl rfl)
theorem dX10_readNumber_1 : decode cX10_readNumber 1 = .ok (.getfield 131, 3) := dk_180 0 131 (dk_at dksX10_readNumber_0 1 rfl rfl)
theorem dX10_readNumber_4 : decode cX10_readNumber 4 = .ok (.iconst 3, 1) := dk_6 (dk_at dksX10_readNumber_0 4 rfl rfl)
theorem dX10_readNumber_5 : decode cX10_readNumber 5 = .ok (.if_icmp .eq 9, 3) := dk_159 0 9 (dk_at dksX10_readNumber_0 5 rfl rfl)
theorem dX10_readNumber_8 : decode cX10_readNumber 8 = .ok (.aload_n 0, 1) := dk_42 (dk_at dksX10_readNumber_0 8 rfl rfl)
theorem dX10_readNumber_9 : decode cX10_readNumber 9 = .ok (.iconst 1, 1) := dk_4 (dk_at dksX10_readNumber_0 9 rfl rfl)
theorem dX10_readNumber_10 : decode cX10_readNumber 10 = .ok (.invokevirtual 184, 3) := dk_182 0 184 (dk_at dksX10_readNumber_0 10 rfl rfl)
theorem dX10_readNumber_13 : decode cX10_readNumber 13 = .ok (.ireturn, 1) := dk_172 (dk_at dksX10_readNumber_0 13 rfl rfl)
theorem dX10_readNumber_14 : decode cX10_readNumber 14 = .ok (.aload_n 0, 1) := dk_42 (dk_at dksX10_readNumber_0 14 rfl rfl)
theorem dX10_readNumber_15 : decode cX10_readNumber 15 = .ok (.getfield 148, 3) := dk_180 0 148 (dk_at dksX10_readNumber_0 15 rfl rfl)
theorem dX10_readNumber_18 : decode cX10_readNumber 18 = .ok (.iload_n 1, 1) := dk_27 (dk_at dksX10_readNumber_0 18 rfl rfl)
theorem dX10_readNumber_19 : decode cX10_readNumber 19 = .ok (.iload_n 2, 1) := dk_28 (dk_at dksX10_readNumber_0 19 rfl rfl)
theorem dX10_readNumber_20 : decode cX10_readNumber 20 = .ok (.invokestatic 187, 3) := dk_184 0 187 (dk_at dksX10_readNumber_0 20 rfl rfl)
theorem dX10_readNumber_23 : decode cX10_readNumber 23 = .ok (.ifCond .ne 9, 3) := dk_154 0 9 (dk_at dksX10_readNumber_1 0 rfl rfl)
theorem dX10_readNumber_26 : decode cX10_readNumber 26 = .ok (.aload_n 0, 1) := dk_42 (dk_at dksX10_readNumber_1 3 rfl rfl)
theorem dX10_readNumber_27 : decode cX10_readNumber 27 = .ok (.iconst 2, 1) := dk_5 (dk_at dksX10_readNumber_1 4 rfl rfl)
theorem dX10_readNumber_28 : decode cX10_readNumber 28 = .ok (.invokevirtual 184, 3) := dk_182 0 184 (dk_at dksX10_readNumber_1 5 rfl rfl)
theorem dX10_readNumber_31 : decode cX10_readNumber 31 = .ok (.ireturn, 1) := dk_172 (dk_at dksX10_readNumber_1 8 rfl rfl)
theorem dX10_readNumber_32 : decode cX10_readNumber 32 = .ok (.aload_n 0, 1) := dk_42 (dk_at dksX10_readNumber_1 9 rfl rfl)
theorem dX10_readNumber_33 : decode cX10_readNumber 33 = .ok (.aload_n 0, 1) := dk_42 (dk_at dksX10_readNumber_1 10 rfl rfl)
theorem dX10_readNumber_34 : decode cX10_readNumber 34 = .ok (.getfield 148, 3) := dk_180 0 148 (dk_at dksX10_readNumber_1 11 rfl rfl)
theorem dX10_readNumber_37 : decode cX10_readNumber 37 = .ok (.putfield 191, 3) := dk_181 0 191 (dk_at dksX10_readNumber_1 14 rfl rfl)
theorem dX10_readNumber_40 : decode cX10_readNumber 40 = .ok (.aload_n 0, 1) := dk_42 (dk_at dksX10_readNumber_1 17 rfl rfl)
theorem dX10_readNumber_41 : decode cX10_readNumber 41 = .ok (.invokevirtual 194, 3) := dk_182 0 194 (dk_at dksX10_readNumber_1 18 rfl rfl)
theorem dX10_readNumber_44 : decode cX10_readNumber 44 = .ok (.iconst 1, 1) := dk_4 (dk_at dksX10_readNumber_1 21 rfl rfl)
theorem dX10_readNumber_45 : decode cX10_readNumber 45 = .ok (.ireturn, 1) := dk_172 (dk_at dksX10_readNumber_1 22 rfl rfl)
theorem fp_X10_191 {nm : String} : gFp "BitingDoorsModel" nm 191 [8] 13 .int := by
  intro args s hts hN ci hc
  simp only [List.mem_cons, List.not_mem_nil, or_false] at hc
  subst hc
  exact ⟨RX10, TX10, 64, "BitingDoorsModel", gCl_X10, in_X10, by decide, Or.inl ⟨rfl, Or.inl (hts _ q1663)⟩, fun _ h => h, rfl, fun D tys hK => gap_X10 hts hK⟩
theorem dn_X10_readNumber : yX10_readNumber.cls ≠ "java/lang/invoke/MethodHandle" ∧ yX10_readNumber.cls ≠ "java/lang/invoke/VarHandle" ∧ (parseMethodDescriptor yX10_readNumber.desc).map (fun d => d.parameters.length) = some 2 := by decide +kernel
noncomputable def M_X10_readNumber (p1 : Int32) (p2 : Int32) : TM Bool := TM.bind (tI 7) (fun v1 => if v1 = 3 then TM.bind (tI 8) (fun v2 => TM.bind (M_X10_isIn v2 p1 p2) (fun v3 => cond v3 (TM.bind (tI 8) (fun v4 => TM.bind (sI 13 v4) (fun _ => TM.bind (M_X10_go) (fun v5 => TM.pure true)))) (TM.bind (M_X10_bad 2) (fun v6 => TM.pure v6)))) else TM.bind (M_X10_bad 1) (fun v7 => TM.pure v7))
set_option maxHeartbeats 4000000 in
theorem ct_X10_readNumber (G : gG) (am : Nat) (p1 : Int32) (p2 : Int32) : gCtM G am yX10_readNumber cX10_readNumber 3 (some .boolean) 2 45 [.ref am, .int p1, .int p2] (M_X10_readNumber p1 p2) (fun x : Bool => some (.int (b2i x))) := by
  refine gCtM.of (by decide) (Nat.le_of_ble_eq_true rfl) (fun K hn ms ms' r hG X hK hd ho => ?_)
  subst hG
  have X : gX K cX10_readNumber 3 "BitingDoorsModel" "readNumber" (some .boolean) 2 45 := X
  show V K 3 (mkM am hn ms) 0 [(0, .ref am), (1, .int p1), (2, .int p2)] []
  unfold M_X10_readNumber at hd
  refine v_aload_n X dX10_readNumber_0 0 0 rfl rfl ?_
  refine t_getI X hd rfl fl_X10_131 dX10_readNumber_1 (fun v1 hd => ?_)
  refine v_iconst (v := 3) X dX10_readNumber_4 (by decide) ?_
  refine v_icmp_eq (tgt := 14) X dX10_readNumber_5 (by decide) (fun q => ?_) (fun q => ?_)
  · have hd := Tite_t q hd
    refine v_aload_n X dX10_readNumber_14 0 0 rfl rfl ?_
    refine t_getI X hd rfl fl_X10_148 dX10_readNumber_15 (fun v2 hd => ?_)
    refine v_iload_n X dX10_readNumber_18 1 1 rfl rfl ?_
    refine v_iload_n X dX10_readNumber_19 2 2 rfl rfl ?_
    refine t_callS X hK hd (ct_X10_isIn _ am v2 p1 p2) (lw_S q1940 q1941 q120 q1942) dn_X10_isIn rfl ⟨by decide, by decide⟩ rfl (Nat.le_of_ble_eq_true rfl) dX10_readNumber_20 (fun v3 ms hd => ?_)
    show V K 3 (mkM am hn ms) 23 [(0, .ref am), (1, .int p1), (2, .int p2)] [.int (b2i v3)]
    refine v_ifZ_ne (tgt := 32) X dX10_readNumber_23 (by decide) (fun q => ?_) (fun q => ?_)
    · have hd := Tcnd_t q hd
      refine v_aload_n X dX10_readNumber_32 0 0 rfl rfl ?_
      refine v_aload_n X dX10_readNumber_33 0 0 rfl rfl ?_
      refine t_getI X hd rfl fl_X10_148 dX10_readNumber_34 (fun v4 hd => ?_)
      refine t_putI X hd rfl fp_X10_191 dX10_readNumber_37 (fun ms hd => ?_)
      refine v_aload_n X dX10_readNumber_40 0 0 rfl rfl ?_
      refine t_callV X hK hd (ct_X10_go _ am) (lw_V q1876 q1878 qs39 q120 q1879) ⟨rfl, dn_X10_go⟩ rfl ⟨by decide, by decide⟩ rfl (Nat.le_of_ble_eq_true rfl) dX10_readNumber_41 (fun v5 ms hd => ?_)
      show V K 3 (mkM am hn ms) 44 [(0, .ref am), (1, .int p1), (2, .int p2)] []
      refine v_iconst (v := 1) X dX10_readNumber_44 (by decide) ?_
      exact t_zret X hK hd rfl ho dX10_readNumber_45
    · have hd := Tcnd_f q hd
      refine v_aload_n X dX10_readNumber_26 0 0 rfl rfl ?_
      refine v_iconst (v := 2) X dX10_readNumber_27 (by decide) ?_
      refine t_callV X hK hd (ct_X10_bad _ am 2) (lw_V q1913 q1915 qs44 q120 q1916) ⟨rfl, dn_X10_bad⟩ rfl ⟨by decide, by decide⟩ rfl (Nat.le_of_ble_eq_true rfl) dX10_readNumber_28 (fun v6 ms hd => ?_)
      show V K 3 (mkM am hn ms) 31 [(0, .ref am), (1, .int p1), (2, .int p2)] [.int (b2i v6)]
      exact t_zret X hK hd rfl ho dX10_readNumber_31
  · have hd := Tite_f q hd
    refine v_aload_n X dX10_readNumber_8 0 0 rfl rfl ?_
    refine v_iconst (v := 1) X dX10_readNumber_9 (by decide) ?_
    refine t_callV X hK hd (ct_X10_bad _ am 1) (lw_V q1913 q1915 qs44 q120 q1916) ⟨rfl, dn_X10_bad⟩ rfl ⟨by decide, by decide⟩ rfl (Nat.le_of_ble_eq_true rfl) dX10_readNumber_10 (fun v7 ms hd => ?_)
    show V K 3 (mkM am hn ms) 13 [(0, .ref am), (1, .int p1), (2, .int p2)] [.int (b2i v7)]
    exact t_zret X hK hd rfl ho dX10_readNumber_13
def dkwX10_readCompare_3 : List UInt8 := [181, 1, 185, 4, 172]
abbrev dktX10_readCompare_3 : List UInt8 := dkwX10_readCompare_3 ++ []
def dkwX10_readCompare_2 : List UInt8 := [182, 0, 220, 154, 0, 5, 3, 172, 42, 42, 16, 50, 27, 96, 3, 42, 180, 0, 191, 28, 182, 1, 188]
abbrev dktX10_readCompare_2 : List UInt8 := dkwX10_readCompare_2 ++ dktX10_readCompare_3
def dkwX10_readCompare_1 : List UInt8 := [154, 0, 9, 42, 4, 182, 0, 184, 172, 42, 180, 0, 141, 61, 42, 182, 0, 194, 42, 3, 16, 99]
abbrev dktX10_readCompare_1 : List UInt8 := dkwX10_readCompare_1 ++ dktX10_readCompare_2
def dkwX10_readCompare_0 : List UInt8 := [42, 16, 60, 182, 0, 197, 154, 0, 27, 42, 16, 61, 182, 0, 197, 154, 0, 18, 42, 16, 62, 182, 0, 197]
abbrev dktX10_readCompare_0 : List UInt8 := dkwX10_readCompare_0 ++ dktX10_readCompare_1
theorem dksX10_readCompare_0 : cX10_readCompare.data.toList.drop 0 = dktX10_readCompare_0 := by decide +kernel
theorem dksX10_readCompare_1 : cX10_readCompare.data.toList.drop 24 = dktX10_readCompare_1 := dk_seg dksX10_readCompare_0 24 rfl rfl
theorem dksX10_readCompare_2 : cX10_readCompare.data.toList.drop 46 = dktX10_readCompare_2 := dk_seg dksX10_readCompare_1 22 rfl rfl
theorem dksX10_readCompare_3 : cX10_readCompare.data.toList.drop 69 = dktX10_readCompare_3 := dk_seg dksX10_readCompare_2 23 rfl rfl
theorem dX10_readCompare_0 : decode cX10_readCompare 0 = .ok (.aload_n 0, 1) := dk_42 (dk_at dksX10_readCompare_0 0 rfl rfl)
theorem dX10_readCompare_1 : decode cX10_readCompare 1 = .ok (.bipush 60, 2) := dk_16 60 (dk_at dksX10_readCompare_0 1 rfl rfl)
theorem dX10_readCompare_3 : decode cX10_readCompare 3 = .ok (.invokevirtual 197, 3) := dk_182 0 197 (dk_at dksX10_readCompare_0 3 rfl rfl)
theorem dX10_readCompare_6 : decode cX10_readCompare 6 = .ok (.ifCond .ne 27, 3) := dk_154 0 27 (dk_at dksX10_readCompare_0 6 rfl rfl)
theorem dX10_readCompare_9 : decode cX10_readCompare 9 = .ok (.aload_n 0, 1) := dk_42 (dk_at dksX10_readCompare_0 9 rfl rfl)
theorem dX10_readCompare_10 : decode cX10_readCompare 10 = .ok (.bipush 61, 2) := dk_16 61 (dk_at dksX10_readCompare_0 10 rfl rfl)
theorem dX10_readCompare_12 : decode cX10_readCompare 12 = .ok (.invokevirtual 197, 3) := dk_182 0 197 (dk_at dksX10_readCompare_0 12 rfl rfl)
theorem dX10_readCompare_15 : decode cX10_readCompare 15 = .ok (.ifCond .ne 18, 3) := dk_154 0 18 (dk_at dksX10_readCompare_0 15 rfl rfl)
theorem dX10_readCompare_18 : decode cX10_readCompare 18 = .ok (.aload_n 0, 1) := dk_42 (dk_at dksX10_readCompare_0 18 rfl rfl)
theorem dX10_readCompare_19 : decode cX10_readCompare 19 = .ok (.bipush 62, 2) := dk_16 62 (dk_at dksX10_readCompare_0 19 rfl rfl)
theorem dX10_readCompare_21 : decode cX10_readCompare 21 = .ok (.invokevirtual 197, 3) := dk_182 0 197 (dk_at dksX10_readCompare_0 21 rfl rfl)
theorem dX10_readCompare_24 : decode cX10_readCompare 24 = .ok (.ifCond .ne 9, 3) := dk_154 0 9 (dk_at dksX10_readCompare_1 0 rfl rfl)
theorem dX10_readCompare_27 : decode cX10_readCompare 27 = .ok (.aload_n 0, 1) := dk_42 (dk_at dksX10_readCompare_1 3 rfl rfl)
theorem dX10_readCompare_28 : decode cX10_readCompare 28 = .ok (.iconst 1, 1) := dk_4 (dk_at dksX10_readCompare_1 4 rfl rfl)
theorem dX10_readCompare_29 : decode cX10_readCompare 29 = .ok (.invokevirtual 184, 3) := dk_182 0 184 (dk_at dksX10_readCompare_1 5 rfl rfl)
theorem dX10_readCompare_32 : decode cX10_readCompare 32 = .ok (.ireturn, 1) := dk_172 (dk_at dksX10_readCompare_1 8 rfl rfl)
theorem dX10_readCompare_33 : decode cX10_readCompare 33 = .ok (.aload_n 0, 1) := dk_42 (dk_at dksX10_readCompare_1 9 rfl rfl)
theorem dX10_readCompare_34 : decode cX10_readCompare 34 = .ok (.getfield 141, 3) := dk_180 0 141 (dk_at dksX10_readCompare_1 10 rfl rfl)
theorem dX10_readCompare_37 : decode cX10_readCompare 37 = .ok (.istore_n 2, 1) := dk_61 (dk_at dksX10_readCompare_1 13 rfl rfl)
theorem dX10_readCompare_38 : decode cX10_readCompare 38 = .ok (.aload_n 0, 1) := dk_42 (dk_at dksX10_readCompare_1 14 rfl rfl)
theorem dX10_readCompare_39 : decode cX10_readCompare 39 = .ok (.invokevirtual 194, 3) := dk_182 0 194 (dk_at dksX10_readCompare_1 15 rfl rfl)
theorem dX10_readCompare_42 : decode cX10_readCompare 42 = .ok (.aload_n 0, 1) := dk_42 (dk_at dksX10_readCompare_1 18 rfl rfl)
theorem dX10_readCompare_43 : decode cX10_readCompare 43 = .ok (.iconst 0, 1) := dk_3 (dk_at dksX10_readCompare_1 19 rfl rfl)
theorem dX10_readCompare_44 : decode cX10_readCompare 44 = .ok (.bipush 99, 2) := dk_16 99 (dk_at dksX10_readCompare_1 20 rfl rfl)
theorem dX10_readCompare_46 : decode cX10_readCompare 46 = .ok (.invokevirtual 220, 3) := dk_182 0 220 (dk_at dksX10_readCompare_2 0 rfl rfl)
theorem dX10_readCompare_49 : decode cX10_readCompare 49 = .ok (.ifCond .ne 5, 3) := dk_154 0 5 (dk_at dksX10_readCompare_2 3 rfl rfl)
theorem dX10_readCompare_52 : decode cX10_readCompare 52 = .ok (.iconst 0, 1) := dk_3 (dk_at dksX10_readCompare_2 6 rfl rfl)
theorem dX10_readCompare_53 : decode cX10_readCompare 53 = .ok (.ireturn, 1) := dk_172 (dk_at dksX10_readCompare_2 7 rfl rfl)
theorem dX10_readCompare_54 : decode cX10_readCompare 54 = .ok (.aload_n 0, 1) := dk_42 (dk_at dksX10_readCompare_2 8 rfl rfl)
theorem dX10_readCompare_55 : decode cX10_readCompare 55 = .ok (.aload_n 0, 1) := dk_42 (dk_at dksX10_readCompare_2 9 rfl rfl)
theorem dX10_readCompare_56 : decode cX10_readCompare 56 = .ok (.bipush 50, 2) := dk_16 50 (dk_at dksX10_readCompare_2 10 rfl rfl)
theorem dX10_readCompare_58 : decode cX10_readCompare 58 = .ok (.iload_n 1, 1) := dk_27 (dk_at dksX10_readCompare_2 12 rfl rfl)
theorem dX10_readCompare_59 : decode cX10_readCompare 59 = .ok (.iadd, 1) := dk_96 (dk_at dksX10_readCompare_2 13 rfl rfl)
theorem dX10_readCompare_60 : decode cX10_readCompare 60 = .ok (.iconst 0, 1) := dk_3 (dk_at dksX10_readCompare_2 14 rfl rfl)
theorem dX10_readCompare_61 : decode cX10_readCompare 61 = .ok (.aload_n 0, 1) := dk_42 (dk_at dksX10_readCompare_2 15 rfl rfl)
theorem dX10_readCompare_62 : decode cX10_readCompare 62 = .ok (.getfield 191, 3) := dk_180 0 191 (dk_at dksX10_readCompare_2 16 rfl rfl)
theorem dX10_readCompare_65 : decode cX10_readCompare 65 = .ok (.iload_n 2, 1) := dk_28 (dk_at dksX10_readCompare_2 19 rfl rfl)
theorem dX10_readCompare_66 : decode cX10_readCompare 66 = .ok (.invokevirtual 444, 3) := dk_182 1 188 (dk_at dksX10_readCompare_2 20 rfl rfl)
theorem dX10_readCompare_69 : decode cX10_readCompare 69 = .ok (.putfield 441, 3) := dk_181 1 185 (dk_at dksX10_readCompare_3 0 rfl rfl)
theorem dX10_readCompare_72 : decode cX10_readCompare 72 = .ok (.iconst 1, 1) := dk_4 (dk_at dksX10_readCompare_3 3 rfl rfl)
theorem dX10_readCompare_73 : decode cX10_readCompare 73 = .ok (.ireturn, 1) := dk_172 (dk_at dksX10_readCompare_3 4 rfl rfl)
theorem fl_X10_191 : gFl "BitingDoorsModel" 191 [8] 13 := by
  intro args s hts hN ci hc
  simp only [List.mem_cons, List.not_mem_nil, or_false] at hc
  subst hc
  exact ⟨RX10, TX10, 64, "BitingDoorsModel", gCl_X10, in_X10, by decide, Or.inl (hts _ q1663), fun _ h => h⟩
theorem dn_X10_readCompare : yX10_readCompare.cls ≠ "java/lang/invoke/MethodHandle" ∧ yX10_readCompare.cls ≠ "java/lang/invoke/VarHandle" ∧ (parseMethodDescriptor yX10_readCompare.desc).map (fun d => d.parameters.length) = some 1 := by decide +kernel
noncomputable def M_X10_readCompare (p1 : Int32) : TM Bool := TM.bind (M_X10_isSign 60) (fun v1 => cond v1 (TM.bind (tI 9) (fun v2 => TM.bind (M_X10_go) (fun v3 => TM.bind (M_X10_readNumber 0 99) (fun v4 => cond v4 (TM.bind (tI 13) (fun v5 => TM.bind (M_X10_lays (50 + p1) 0 v5 v2) (fun v6 => TM.bind (sI 63 v6) (fun _ => TM.pure true)))) (TM.pure false))))) (TM.bind (M_X10_isSign 61) (fun v7 => cond v7 (TM.bind (tI 9) (fun v8 => TM.bind (M_X10_go) (fun v9 => TM.bind (M_X10_readNumber 0 99) (fun v10 => cond v10 (TM.bind (tI 13) (fun v11 => TM.bind (M_X10_lays (50 + p1) 0 v11 v8) (fun v12 => TM.bind (sI 63 v12) (fun _ => TM.pure true)))) (TM.pure false))))) (TM.bind (M_X10_isSign 62) (fun v13 => cond v13 (TM.bind (tI 9) (fun v14 => TM.bind (M_X10_go) (fun v15 => TM.bind (M_X10_readNumber 0 99) (fun v16 => cond v16 (TM.bind (tI 13) (fun v17 => TM.bind (M_X10_lays (50 + p1) 0 v17 v14) (fun v18 => TM.bind (sI 63 v18) (fun _ => TM.pure true)))) (TM.pure false))))) (TM.bind (M_X10_bad 1) (fun v19 => TM.pure v19)))))))
set_option maxHeartbeats 4000000 in
theorem ct_X10_readCompare (G : gG) (am : Nat) (p1 : Int32) : gCtM G am yX10_readCompare cX10_readCompare 3 (some .boolean) 3 67 [.ref am, .int p1] (M_X10_readCompare p1) (fun x : Bool => some (.int (b2i x))) := by
  refine gCtM.of (by decide) (Nat.le_of_ble_eq_true rfl) (fun K hn ms ms' r hG X hK hd ho => ?_)
  subst hG
  have X : gX K cX10_readCompare 3 "BitingDoorsModel" "readCompare" (some .boolean) 3 67 := X
  show V K 3 (mkM am hn ms) 0 [(0, .ref am), (1, .int p1)] []
  unfold M_X10_readCompare at hd
  refine v_aload_n X dX10_readCompare_0 0 0 rfl rfl ?_
  refine v_bipush (v := 60) X dX10_readCompare_1 (by decide) ?_
  refine t_callV X hK hd (ct_X10_isSign _ am 60) (lw_V q1962 q1964 qs54 q120 q1965) ⟨rfl, dn_X10_isSign⟩ rfl ⟨by decide, by decide⟩ rfl (Nat.le_of_ble_eq_true rfl) dX10_readCompare_3 (fun v1 ms hd => ?_)
  show V K 3 (mkM am hn ms) 6 [(0, .ref am), (1, .int p1)] [.int (b2i v1)]
  refine v_ifZ_ne (tgt := 33) X dX10_readCompare_6 (by decide) (fun q => ?_) (fun q => ?_)
  · have hd := Tcnd_t q hd
    refine v_aload_n X dX10_readCompare_33 0 0 rfl rfl ?_
    refine t_getI X hd rfl fl_X10_141 dX10_readCompare_34 (fun v2 hd => ?_)
    refine v_istore_n (lv2 := [(2, .int v2), (0, .ref am), (1, .int p1)]) X dX10_readCompare_37 2 rfl (by decide) rfl ?_
    refine v_aload_n X dX10_readCompare_38 1 0 rfl rfl ?_
    refine t_callV X hK hd (ct_X10_go _ am) (lw_V q1876 q1878 qs39 q120 q1879) ⟨rfl, dn_X10_go⟩ rfl ⟨by decide, by decide⟩ rfl (Nat.le_of_ble_eq_true rfl) dX10_readCompare_39 (fun v3 ms hd => ?_)
    show V K 3 (mkM am hn ms) 42 [(2, .int v2), (0, .ref am), (1, .int p1)] []
    refine v_aload_n X dX10_readCompare_42 1 0 rfl rfl ?_
    refine v_iconst (v := 0) X dX10_readCompare_43 (by decide) ?_
    refine v_bipush (v := 99) X dX10_readCompare_44 (by decide) ?_
    refine t_callV X hK hd (ct_X10_readNumber _ am 0 99) (lw_V q1936 q1938 qs49 q120 q1939) ⟨rfl, dn_X10_readNumber⟩ rfl ⟨by decide, by decide⟩ rfl (Nat.le_of_ble_eq_true rfl) dX10_readCompare_46 (fun v4 ms hd => ?_)
    show V K 3 (mkM am hn ms) 49 [(2, .int v2), (0, .ref am), (1, .int p1)] [.int (b2i v4)]
    refine v_ifZ_ne (tgt := 54) X dX10_readCompare_49 (by decide) (fun q => ?_) (fun q => ?_)
    · have hd := Tcnd_t q hd
      refine v_aload_n X dX10_readCompare_54 1 0 rfl rfl ?_
      refine v_aload_n X dX10_readCompare_55 1 0 rfl rfl ?_
      refine v_bipush (v := 50) X dX10_readCompare_56 (by decide) ?_
      refine v_iload_n X dX10_readCompare_58 2 1 rfl rfl ?_
      refine v_iadd X dX10_readCompare_59 ?_
      refine v_iconst (v := 0) X dX10_readCompare_60 (by decide) ?_
      refine v_aload_n X dX10_readCompare_61 1 0 rfl rfl ?_
      refine t_getI X hd rfl fl_X10_191 dX10_readCompare_62 (fun v5 hd => ?_)
      refine v_iload_n X dX10_readCompare_65 0 2 rfl rfl ?_
      refine t_callV X hK hd (ct_X10_lays _ am (50 + p1) 0 v5 v2) (lw_V q2304 q2306 qs103 q120 q2307) ⟨rfl, dn_X10_lays⟩ rfl ⟨by decide, by decide⟩ rfl (Nat.le_of_ble_eq_true rfl) dX10_readCompare_66 (fun v6 ms hd => ?_)
      show V K 3 (mkM am hn ms) 69 [(2, .int v2), (0, .ref am), (1, .int p1)] [.int v6, .ref am]
      refine t_putI X hd rfl fp_X10_441 dX10_readCompare_69 (fun ms hd => ?_)
      refine v_iconst (v := 1) X dX10_readCompare_72 (by decide) ?_
      exact t_zret X hK hd rfl ho dX10_readCompare_73
    · have hd := Tcnd_f q hd
      refine v_iconst (v := 0) X dX10_readCompare_52 (by decide) ?_
      exact t_zret X hK hd rfl ho dX10_readCompare_53
  · have hd := Tcnd_f q hd
    refine v_aload_n X dX10_readCompare_9 0 0 rfl rfl ?_
    refine v_bipush (v := 61) X dX10_readCompare_10 (by decide) ?_
    refine t_callV X hK hd (ct_X10_isSign _ am 61) (lw_V q1962 q1964 qs54 q120 q1965) ⟨rfl, dn_X10_isSign⟩ rfl ⟨by decide, by decide⟩ rfl (Nat.le_of_ble_eq_true rfl) dX10_readCompare_12 (fun v7 ms hd => ?_)
    show V K 3 (mkM am hn ms) 15 [(0, .ref am), (1, .int p1)] [.int (b2i v7)]
    refine v_ifZ_ne (tgt := 33) X dX10_readCompare_15 (by decide) (fun q => ?_) (fun q => ?_)
    · have hd := Tcnd_t q hd
      refine v_aload_n X dX10_readCompare_33 0 0 rfl rfl ?_
      refine t_getI X hd rfl fl_X10_141 dX10_readCompare_34 (fun v8 hd => ?_)
      refine v_istore_n (lv2 := [(2, .int v8), (0, .ref am), (1, .int p1)]) X dX10_readCompare_37 2 rfl (by decide) rfl ?_
      refine v_aload_n X dX10_readCompare_38 1 0 rfl rfl ?_
      refine t_callV X hK hd (ct_X10_go _ am) (lw_V q1876 q1878 qs39 q120 q1879) ⟨rfl, dn_X10_go⟩ rfl ⟨by decide, by decide⟩ rfl (Nat.le_of_ble_eq_true rfl) dX10_readCompare_39 (fun v9 ms hd => ?_)
      show V K 3 (mkM am hn ms) 42 [(2, .int v8), (0, .ref am), (1, .int p1)] []
      refine v_aload_n X dX10_readCompare_42 1 0 rfl rfl ?_
      refine v_iconst (v := 0) X dX10_readCompare_43 (by decide) ?_
      refine v_bipush (v := 99) X dX10_readCompare_44 (by decide) ?_
      refine t_callV X hK hd (ct_X10_readNumber _ am 0 99) (lw_V q1936 q1938 qs49 q120 q1939) ⟨rfl, dn_X10_readNumber⟩ rfl ⟨by decide, by decide⟩ rfl (Nat.le_of_ble_eq_true rfl) dX10_readCompare_46 (fun v10 ms hd => ?_)
      show V K 3 (mkM am hn ms) 49 [(2, .int v8), (0, .ref am), (1, .int p1)] [.int (b2i v10)]
      refine v_ifZ_ne (tgt := 54) X dX10_readCompare_49 (by decide) (fun q => ?_) (fun q => ?_)
      · have hd := Tcnd_t q hd
        refine v_aload_n X dX10_readCompare_54 1 0 rfl rfl ?_
        refine v_aload_n X dX10_readCompare_55 1 0 rfl rfl ?_
        refine v_bipush (v := 50) X dX10_readCompare_56 (by decide) ?_
        refine v_iload_n X dX10_readCompare_58 2 1 rfl rfl ?_
        refine v_iadd X dX10_readCompare_59 ?_
        refine v_iconst (v := 0) X dX10_readCompare_60 (by decide) ?_
        refine v_aload_n X dX10_readCompare_61 1 0 rfl rfl ?_
        refine t_getI X hd rfl fl_X10_191 dX10_readCompare_62 (fun v11 hd => ?_)
        refine v_iload_n X dX10_readCompare_65 0 2 rfl rfl ?_
        refine t_callV X hK hd (ct_X10_lays _ am (50 + p1) 0 v11 v8) (lw_V q2304 q2306 qs103 q120 q2307) ⟨rfl, dn_X10_lays⟩ rfl ⟨by decide, by decide⟩ rfl (Nat.le_of_ble_eq_true rfl) dX10_readCompare_66 (fun v12 ms hd => ?_)
        show V K 3 (mkM am hn ms) 69 [(2, .int v8), (0, .ref am), (1, .int p1)] [.int v12, .ref am]
        refine t_putI X hd rfl fp_X10_441 dX10_readCompare_69 (fun ms hd => ?_)
        refine v_iconst (v := 1) X dX10_readCompare_72 (by decide) ?_
        exact t_zret X hK hd rfl ho dX10_readCompare_73
      · have hd := Tcnd_f q hd
        refine v_iconst (v := 0) X dX10_readCompare_52 (by decide) ?_
        exact t_zret X hK hd rfl ho dX10_readCompare_53
    · have hd := Tcnd_f q hd
      refine v_aload_n X dX10_readCompare_18 0 0 rfl rfl ?_
      refine v_bipush (v := 62) X dX10_readCompare_19 (by decide) ?_
      refine t_callV X hK hd (ct_X10_isSign _ am 62) (lw_V q1962 q1964 qs54 q120 q1965) ⟨rfl, dn_X10_isSign⟩ rfl ⟨by decide, by decide⟩ rfl (Nat.le_of_ble_eq_true rfl) dX10_readCompare_21 (fun v13 ms hd => ?_)
      show V K 3 (mkM am hn ms) 24 [(0, .ref am), (1, .int p1)] [.int (b2i v13)]
      refine v_ifZ_ne (tgt := 33) X dX10_readCompare_24 (by decide) (fun q => ?_) (fun q => ?_)
      · have hd := Tcnd_t q hd
        refine v_aload_n X dX10_readCompare_33 0 0 rfl rfl ?_
        refine t_getI X hd rfl fl_X10_141 dX10_readCompare_34 (fun v14 hd => ?_)
        refine v_istore_n (lv2 := [(2, .int v14), (0, .ref am), (1, .int p1)]) X dX10_readCompare_37 2 rfl (by decide) rfl ?_
        refine v_aload_n X dX10_readCompare_38 1 0 rfl rfl ?_
        refine t_callV X hK hd (ct_X10_go _ am) (lw_V q1876 q1878 qs39 q120 q1879) ⟨rfl, dn_X10_go⟩ rfl ⟨by decide, by decide⟩ rfl (Nat.le_of_ble_eq_true rfl) dX10_readCompare_39 (fun v15 ms hd => ?_)
        show V K 3 (mkM am hn ms) 42 [(2, .int v14), (0, .ref am), (1, .int p1)] []
        refine v_aload_n X dX10_readCompare_42 1 0 rfl rfl ?_
        refine v_iconst (v := 0) X dX10_readCompare_43 (by decide) ?_
        refine v_bipush (v := 99) X dX10_readCompare_44 (by decide) ?_
        refine t_callV X hK hd (ct_X10_readNumber _ am 0 99) (lw_V q1936 q1938 qs49 q120 q1939) ⟨rfl, dn_X10_readNumber⟩ rfl ⟨by decide, by decide⟩ rfl (Nat.le_of_ble_eq_true rfl) dX10_readCompare_46 (fun v16 ms hd => ?_)
        show V K 3 (mkM am hn ms) 49 [(2, .int v14), (0, .ref am), (1, .int p1)] [.int (b2i v16)]
        refine v_ifZ_ne (tgt := 54) X dX10_readCompare_49 (by decide) (fun q => ?_) (fun q => ?_)
        · have hd := Tcnd_t q hd
          refine v_aload_n X dX10_readCompare_54 1 0 rfl rfl ?_
          refine v_aload_n X dX10_readCompare_55 1 0 rfl rfl ?_
          refine v_bipush (v := 50) X dX10_readCompare_56 (by decide) ?_
          refine v_iload_n X dX10_readCompare_58 2 1 rfl rfl ?_
          refine v_iadd X dX10_readCompare_59 ?_
          refine v_iconst (v := 0) X dX10_readCompare_60 (by decide) ?_
          refine v_aload_n X dX10_readCompare_61 1 0 rfl rfl ?_
          refine t_getI X hd rfl fl_X10_191 dX10_readCompare_62 (fun v17 hd => ?_)
          refine v_iload_n X dX10_readCompare_65 0 2 rfl rfl ?_
          refine t_callV X hK hd (ct_X10_lays _ am (50 + p1) 0 v17 v14) (lw_V q2304 q2306 qs103 q120 q2307) ⟨rfl, dn_X10_lays⟩ rfl ⟨by decide, by decide⟩ rfl (Nat.le_of_ble_eq_true rfl) dX10_readCompare_66 (fun v18 ms hd => ?_)
          show V K 3 (mkM am hn ms) 69 [(2, .int v14), (0, .ref am), (1, .int p1)] [.int v18, .ref am]
          refine t_putI X hd rfl fp_X10_441 dX10_readCompare_69 (fun ms hd => ?_)
          refine v_iconst (v := 1) X dX10_readCompare_72 (by decide) ?_
          exact t_zret X hK hd rfl ho dX10_readCompare_73
        · have hd := Tcnd_f q hd
          refine v_iconst (v := 0) X dX10_readCompare_52 (by decide) ?_
          exact t_zret X hK hd rfl ho dX10_readCompare_53
      · have hd := Tcnd_f q hd
        refine v_aload_n X dX10_readCompare_27 0 0 rfl rfl ?_
        refine v_iconst (v := 1) X dX10_readCompare_28 (by decide) ?_
        refine t_callV X hK hd (ct_X10_bad _ am 1) (lw_V q1913 q1915 qs44 q120 q1916) ⟨rfl, dn_X10_bad⟩ rfl ⟨by decide, by decide⟩ rfl (Nat.le_of_ble_eq_true rfl) dX10_readCompare_29 (fun v19 ms hd => ?_)
        show V K 3 (mkM am hn ms) 32 [(0, .ref am), (1, .int p1)] [.int (b2i v19)]
        exact t_zret X hK hd rfl ho dX10_readCompare_32
def dkwX10_canHang_3 : List UInt8 := [28, 182, 1, 92, 153, 0, 5, 4, 172, 132, 3, 1, 167, 255, 202, 3, 172]
abbrev dktX10_canHang_3 : List UInt8 := dkwX10_canHang_3 ++ []
def dkwX10_canHang_2 : List UInt8 := [42, 27, 29, 28, 182, 1, 53, 154, 0, 6, 167, 0, 23, 42, 180, 0, 54, 27, 29, 79, 42, 27, 4, 96]
abbrev dktX10_canHang_2 : List UInt8 := dkwX10_canHang_2 ++ dktX10_canHang_3
def dkwX10_canHang_1 : List UInt8 := [182, 1, 92, 172, 3, 62, 29, 7, 162, 0, 55, 42, 180, 0, 51, 27, 46, 29, 184, 0, 231, 153, 0, 36]
abbrev dktX10_canHang_1 : List UInt8 := dkwX10_canHang_1 ++ dktX10_canHang_2
def dkwX10_canHang_0 : List UInt8 := [27, 42, 182, 0, 211, 160, 0, 5, 4, 172, 28, 27, 184, 0, 231, 154, 0, 12, 42, 27, 4, 96, 28]
abbrev dktX10_canHang_0 : List UInt8 := dkwX10_canHang_0 ++ dktX10_canHang_1
theorem dksX10_canHang_0 : cX10_canHang.data.toList.drop 0 = dktX10_canHang_0 := by decide +kernel
theorem dksX10_canHang_1 : cX10_canHang.data.toList.drop 23 = dktX10_canHang_1 := dk_seg dksX10_canHang_0 23 rfl rfl
theorem dksX10_canHang_2 : cX10_canHang.data.toList.drop 47 = dktX10_canHang_2 := dk_seg dksX10_canHang_1 24 rfl rfl
theorem dksX10_canHang_3 : cX10_canHang.data.toList.drop 71 = dktX10_canHang_3 := dk_seg dksX10_canHang_2 24 rfl rfl
theorem dX10_canHang_0 : decode cX10_canHang 0 = .ok (.iload_n 1, 1) := dk_27 (dk_at dksX10_canHang_0 0 rfl rfl)
theorem dX10_canHang_1 : decode cX10_canHang 1 = .ok (.aload_n 0, 1) := dk_42 (dk_at dksX10_canHang_0 1 rfl rfl)
theorem dX10_canHang_2 : decode cX10_canHang 2 = .ok (.invokevirtual 211, 3) := dk_182 0 211 (dk_at dksX10_canHang_0 2 rfl rfl)
theorem dX10_canHang_5 : decode cX10_canHang 5 = .ok (.if_icmp .ne 5, 3) := dk_160 0 5 (dk_at dksX10_canHang_0 5 rfl rfl)
theorem dX10_canHang_8 : decode cX10_canHang 8 = .ok (.iconst 1, 1) := dk_4 (dk_at dksX10_canHang_0 8 rfl rfl)
theorem dX10_canHang_9 : decode cX10_canHang 9 = .ok (.ireturn, 1) := dk_172 (dk_at dksX10_canHang_0 9 rfl rfl)
theorem dX10_canHang_10 : decode cX10_canHang 10 = .ok (.iload_n 2, 1) := dk_28 (dk_at dksX10_canHang_0 10 rfl rfl)
theorem dX10_canHang_11 : decode cX10_canHang 11 = .ok (.iload_n 1, 1) := dk_27 (dk_at dksX10_canHang_0 11 rfl rfl)
theorem dX10_canHang_12 : decode cX10_canHang 12 = .ok (.invokestatic 231, 3) := dk_184 0 231 (dk_at dksX10_canHang_0 12 rfl rfl)
theorem dX10_canHang_15 : decode cX10_canHang 15 = .ok (.ifCond .ne 12, 3) := dk_154 0 12 (dk_at dksX10_canHang_0 15 rfl rfl)
theorem dX10_canHang_18 : decode cX10_canHang 18 = .ok (.aload_n 0, 1) := dk_42 (dk_at dksX10_canHang_0 18 rfl rfl)
theorem dX10_canHang_19 : decode cX10_canHang 19 = .ok (.iload_n 1, 1) := dk_27 (dk_at dksX10_canHang_0 19 rfl rfl)
theorem dX10_canHang_20 : decode cX10_canHang 20 = .ok (.iconst 1, 1) := dk_4 (dk_at dksX10_canHang_0 20 rfl rfl)
theorem dX10_canHang_21 : decode cX10_canHang 21 = .ok (.iadd, 1) := dk_96 (dk_at dksX10_canHang_0 21 rfl rfl)
theorem dX10_canHang_22 : decode cX10_canHang 22 = .ok (.iload_n 2, 1) := dk_28 (dk_at dksX10_canHang_0 22 rfl rfl)
theorem dX10_canHang_23 : decode cX10_canHang 23 = .ok (.invokevirtual 348, 3) := dk_182 1 92 (dk_at dksX10_canHang_1 0 rfl rfl)
theorem dX10_canHang_26 : decode cX10_canHang 26 = .ok (.ireturn, 1) := dk_172 (dk_at dksX10_canHang_1 3 rfl rfl)
theorem dX10_canHang_27 : decode cX10_canHang 27 = .ok (.iconst 0, 1) := dk_3 (dk_at dksX10_canHang_1 4 rfl rfl)
theorem dX10_canHang_28 : decode cX10_canHang 28 = .ok (.istore_n 3, 1) := dk_62 (dk_at dksX10_canHang_1 5 rfl rfl)
theorem dX10_canHang_29 : decode cX10_canHang 29 = .ok (.iload_n 3, 1) := dk_29 (dk_at dksX10_canHang_1 6 rfl rfl)
theorem dX10_canHang_30 : decode cX10_canHang 30 = .ok (.iconst 4, 1) := dk_7 (dk_at dksX10_canHang_1 7 rfl rfl)
theorem dX10_canHang_31 : decode cX10_canHang 31 = .ok (.if_icmp .ge 55, 3) := dk_162 0 55 (dk_at dksX10_canHang_1 8 rfl rfl)
theorem dX10_canHang_34 : decode cX10_canHang 34 = .ok (.aload_n 0, 1) := dk_42 (dk_at dksX10_canHang_1 11 rfl rfl)
theorem dX10_canHang_35 : decode cX10_canHang 35 = .ok (.getfield 51, 3) := dk_180 0 51 (dk_at dksX10_canHang_1 12 rfl rfl)
theorem dX10_canHang_38 : decode cX10_canHang 38 = .ok (.iload_n 1, 1) := dk_27 (dk_at dksX10_canHang_1 15 rfl rfl)
theorem dX10_canHang_39 : decode cX10_canHang 39 = .ok (.iaload, 1) := dk_46 (dk_at dksX10_canHang_1 16 rfl rfl)
theorem dX10_canHang_40 : decode cX10_canHang 40 = .ok (.iload_n 3, 1) := dk_29 (dk_at dksX10_canHang_1 17 rfl rfl)
theorem dX10_canHang_41 : decode cX10_canHang 41 = .ok (.invokestatic 231, 3) := dk_184 0 231 (dk_at dksX10_canHang_1 18 rfl rfl)
theorem dX10_canHang_44 : decode cX10_canHang 44 = .ok (.ifCond .eq 36, 3) := dk_153 0 36 (dk_at dksX10_canHang_1 21 rfl rfl)
theorem dX10_canHang_47 : decode cX10_canHang 47 = .ok (.aload_n 0, 1) := dk_42 (dk_at dksX10_canHang_2 0 rfl rfl)
theorem dX10_canHang_48 : decode cX10_canHang 48 = .ok (.iload_n 1, 1) := dk_27 (dk_at dksX10_canHang_2 1 rfl rfl)
theorem dX10_canHang_49 : decode cX10_canHang 49 = .ok (.iload_n 3, 1) := dk_29 (dk_at dksX10_canHang_2 2 rfl rfl)
theorem dX10_canHang_50 : decode cX10_canHang 50 = .ok (.iload_n 2, 1) := dk_28 (dk_at dksX10_canHang_2 3 rfl rfl)
theorem dX10_canHang_51 : decode cX10_canHang 51 = .ok (.invokevirtual 309, 3) := dk_182 1 53 (dk_at dksX10_canHang_2 4 rfl rfl)
theorem dX10_canHang_54 : decode cX10_canHang 54 = .ok (.ifCond .ne 6, 3) := dk_154 0 6 (dk_at dksX10_canHang_2 7 rfl rfl)
theorem dX10_canHang_57 : decode cX10_canHang 57 = .ok (.goto 23, 3) := dk_167 0 23 (dk_at dksX10_canHang_2 10 rfl rfl)
theorem dX10_canHang_60 : decode cX10_canHang 60 = .ok (.aload_n 0, 1) := dk_42 (dk_at dksX10_canHang_2 13 rfl rfl)
theorem dX10_canHang_61 : decode cX10_canHang 61 = .ok (.getfield 54, 3) := dk_180 0 54 (dk_at dksX10_canHang_2 14 rfl rfl)
theorem dX10_canHang_64 : decode cX10_canHang 64 = .ok (.iload_n 1, 1) := dk_27 (dk_at dksX10_canHang_2 17 rfl rfl)
theorem dX10_canHang_65 : decode cX10_canHang 65 = .ok (.iload_n 3, 1) := dk_29 (dk_at dksX10_canHang_2 18 rfl rfl)
theorem dX10_canHang_66 : decode cX10_canHang 66 = .ok (.iastore, 1) := dk_79 (dk_at dksX10_canHang_2 19 rfl rfl)
theorem dX10_canHang_67 : decode cX10_canHang 67 = .ok (.aload_n 0, 1) := dk_42 (dk_at dksX10_canHang_2 20 rfl rfl)
theorem dX10_canHang_68 : decode cX10_canHang 68 = .ok (.iload_n 1, 1) := dk_27 (dk_at dksX10_canHang_2 21 rfl rfl)
theorem dX10_canHang_69 : decode cX10_canHang 69 = .ok (.iconst 1, 1) := dk_4 (dk_at dksX10_canHang_2 22 rfl rfl)
theorem dX10_canHang_70 : decode cX10_canHang 70 = .ok (.iadd, 1) := dk_96 (dk_at dksX10_canHang_2 23 rfl rfl)
theorem dX10_canHang_71 : decode cX10_canHang 71 = .ok (.iload_n 2, 1) := dk_28 (dk_at dksX10_canHang_3 0 rfl rfl)
theorem dX10_canHang_72 : decode cX10_canHang 72 = .ok (.invokevirtual 348, 3) := dk_182 1 92 (dk_at dksX10_canHang_3 1 rfl rfl)
theorem dX10_canHang_75 : decode cX10_canHang 75 = .ok (.ifCond .eq 5, 3) := dk_153 0 5 (dk_at dksX10_canHang_3 4 rfl rfl)
theorem dX10_canHang_78 : decode cX10_canHang 78 = .ok (.iconst 1, 1) := dk_4 (dk_at dksX10_canHang_3 7 rfl rfl)
theorem dX10_canHang_79 : decode cX10_canHang 79 = .ok (.ireturn, 1) := dk_172 (dk_at dksX10_canHang_3 8 rfl rfl)
theorem dX10_canHang_80 : decode cX10_canHang 80 = .ok (.iinc 3 1, 3) := dk_132 3 1 (dk_at dksX10_canHang_3 9 rfl rfl)
theorem dX10_canHang_83 : decode cX10_canHang 83 = .ok (.goto (-54), 3) := dk_167 255 202 (dk_at dksX10_canHang_3 12 rfl rfl)
theorem dX10_canHang_86 : decode cX10_canHang 86 = .ok (.iconst 0, 1) := dk_3 (dk_at dksX10_canHang_3 15 rfl rfl)
theorem dX10_canHang_87 : decode cX10_canHang 87 = .ok (.ireturn, 1) := dk_172 (dk_at dksX10_canHang_3 16 rfl rfl)
theorem dn_X10_canHang : yX10_canHang.cls ≠ "java/lang/invoke/MethodHandle" ∧ yX10_canHang.cls ≠ "java/lang/invoke/VarHandle" ∧ (parseMethodDescriptor yX10_canHang.desc).map (fun d => d.parameters.length) = some 2 := by decide +kernel
noncomputable def B_X10_canHang (Rc : Int32 → Int32 → TM Bool) (p1 : Int32) (p2 : Int32) : TM Bool := TM.bind (M_X10_doors) (fun v1 => if p1 = v1 then TM.pure true else TM.bind (M_X10_has p2 p1) (fun v2 => cond v2 (TM.loop (S := Int32) (fun s3 => if 4 ≤ s3 then TM.pure (Sum.inr false) else TM.bind (tA 29 10 p1) (fun v6 => TM.bind (M_X10_has v6 s3) (fun v7 => cond v7 (TM.bind (M_X10_mayHang p1 s3 p2) (fun v9 => cond v9 (TM.bind (sA 30 10 p1 s3) (fun _ => TM.bind (Rc (p1 + 1) p2) (fun v10 => cond v10 (TM.pure (Sum.inr true)) (TM.lv (s3 + 1) (fun v11 => TM.pure (Sum.inl v11)))))) (TM.lv (s3 + 1) (fun v12 => TM.pure (Sum.inl v12))))) (TM.lv (s3 + 1) (fun v8 => TM.pure (Sum.inl v8)))))) 0) (TM.bind (Rc (p1 + 1) p2) (fun v13 => TM.pure v13))))
noncomputable def M_X10_canHang : Nat → Int32 → Int32 → TM Bool
  | 0 => fun _ _ => TM.fail
  | n + 1 => B_X10_canHang (M_X10_canHang n)
set_option maxHeartbeats 4000000 in
theorem ct_X10_canHang (G : gG) (am n : Nat) : ∀ (p1 : Int32) (p2 : Int32), gCtM G am yX10_canHang cX10_canHang 4 (some .boolean) (2 + n) (48 + n * 23) [.ref am, .int p1, .int p2] (M_X10_canHang n p1 p2) (fun x : Bool => some (.int (b2i x))) := by
  induction n with
  | zero =>
    intro p1 p2 hn ms r m2 hf
    cases hf
  | succ n ih =>
    intro p1 p2
    refine gCtM.of (by decide) (Nat.le_of_ble_eq_true rfl) (fun K hn ms ms' r hG X hK hd ho => ?_)
    subst hG
    have X : gX K cX10_canHang 4 "BitingDoorsModel" "canHang" (some .boolean) (2 + (n + 1)) (48 + (n + 1) * 23) := X
    show V K 4 (mkM am hn ms) 0 [(0, .ref am), (1, .int p1), (2, .int p2)] []
    have hd : B_X10_canHang (M_X10_canHang n) p1 p2 ms = some (r, ms') := hd
    unfold B_X10_canHang at hd
    refine v_iload_n X dX10_canHang_0 1 1 rfl rfl ?_
    refine v_aload_n X dX10_canHang_1 0 0 rfl rfl ?_
    refine t_callV X hK hd (ct_X10_doors _ am) (lw_V q1986 q1988 qs57 q120 q1989) ⟨rfl, dn_X10_doors⟩ rfl ⟨by omega, by omega⟩ rfl (Nat.le_of_ble_eq_true rfl) dX10_canHang_2 (fun v1 ms hd => ?_)
    show V K 4 (mkM am hn ms) 5 [(0, .ref am), (1, .int p1), (2, .int p2)] [.int v1, .int p1]
    refine v_icmp_ne (tgt := 10) X dX10_canHang_5 (by decide) (fun q => ?_) (fun q => ?_)
    · have hd := Tite_f q hd
      refine v_iload_n X dX10_canHang_10 2 2 rfl rfl ?_
      refine v_iload_n X dX10_canHang_11 1 1 rfl rfl ?_
      refine t_callS X hK hd (ct_X10_has _ am p2 p1) (lw_S q1947 q1948 q120 q1949) dn_X10_has rfl ⟨by omega, by omega⟩ rfl (Nat.le_of_ble_eq_true rfl) dX10_canHang_12 (fun v2 ms hd => ?_)
      show V K 4 (mkM am hn ms) 15 [(0, .ref am), (1, .int p1), (2, .int p2)] [.int (b2i v2)]
      refine v_ifZ_ne (tgt := 27) X dX10_canHang_15 (by decide) (fun q => ?_) (fun q => ?_)
      · have hd := Tcnd_t q hd
        refine v_iconst (v := 0) X dX10_canHang_27 (by decide) ?_
        refine v_istore_n (lv2 := [(3, .int 0), (0, .ref am), (1, .int p1), (2, .int p2)]) X dX10_canHang_28 3 rfl (by decide) rfl ?_
        refine v_loc [1, 2, 3, 0] rfl ?_
        refine Tloop_ind hd (fun (s3 : Int32) m => V K 4 (mkM am hn m) 29 [(0, .ref am), (1, .int p1), (2, .int p2), (3, .int s3)] []) (fun s3 ms x m2 hd ih4 ho5 => ?_)
        refine v_iload_n X dX10_canHang_29 3 3 rfl rfl ?_
        refine v_iconst (v := 4) X dX10_canHang_30 (by decide) ?_
        refine v_icmp_ge (tgt := 86) X dX10_canHang_31 (by decide) (fun q => ?_) (fun q => ?_)
        · have hd := Tite_t q hd
          refine v_iconst (v := 0) X dX10_canHang_86 (by decide) ?_
          have hd := Tlp_out hd ho5
          exact t_zret X hK hd rfl ho dX10_canHang_87
        · have hd := Tite_f q hd
          refine v_aload_n X dX10_canHang_34 0 0 rfl rfl ?_
          refine t_getA (j := 13) X rfl fl_X10_51 dX10_canHang_35 ?_
          refine v_iload_n X dX10_canHang_38 1 1 rfl rfl ?_
          refine t_iald (j := 13) X hd rfl dX10_canHang_39 (fun v6 hd => ?_)
          refine v_iload_n X dX10_canHang_40 3 3 rfl rfl ?_
          refine t_callS X hK hd (ct_X10_has _ am v6 s3) (lw_S q1947 q1948 q120 q1949) dn_X10_has rfl ⟨by omega, by omega⟩ rfl (Nat.le_of_ble_eq_true rfl) dX10_canHang_41 (fun v7 ms hd => ?_)
          show V K 4 (mkM am hn ms) 44 [(0, .ref am), (1, .int p1), (2, .int p2), (3, .int s3)] [.int (b2i v7)]
          refine v_ifZ_eq (tgt := 80) X dX10_canHang_44 (by decide) (fun q => ?_) (fun q => ?_)
          · have hd := Tcnd_f q hd
            refine t_iincL (lv2 := fun v8 => [(3, .int v8), (0, .ref am), (1, .int p1), (2, .int p2)]) X hd dX10_canHang_80 3 rfl (by decide : Int32.ofInt 1 = 1) (by decide) (fun v8 => rfl) (fun v8 hd => ?_)
            refine v_goto (tgt := 29) X dX10_canHang_83 (by decide) ?_
            exact v_loc [1, 2, 3, 0] rfl (Tlp_in (P := fun (s3 : Int32) m => V K 4 (mkM am hn m) 29 [(0, .ref am), (1, .int p1), (2, .int p2), (3, .int s3)] []) hd ih4)
          · have hd := Tcnd_t q hd
            refine v_aload_n X dX10_canHang_47 0 0 rfl rfl ?_
            refine v_iload_n X dX10_canHang_48 1 1 rfl rfl ?_
            refine v_iload_n X dX10_canHang_49 3 3 rfl rfl ?_
            refine v_iload_n X dX10_canHang_50 2 2 rfl rfl ?_
            refine t_callV X hK hd (ct_X10_mayHang _ am p1 s3 p2) (lw_V q2065 q2067 qs70 q120 q2068) ⟨rfl, dn_X10_mayHang⟩ rfl ⟨by omega, by omega⟩ rfl (Nat.le_of_ble_eq_true rfl) dX10_canHang_51 (fun v9 ms hd => ?_)
            show V K 4 (mkM am hn ms) 54 [(0, .ref am), (1, .int p1), (2, .int p2), (3, .int s3)] [.int (b2i v9)]
            refine v_ifZ_ne (tgt := 60) X dX10_canHang_54 (by decide) (fun q => ?_) (fun q => ?_)
            · have hd := Tcnd_t q hd
              refine v_aload_n X dX10_canHang_60 0 0 rfl rfl ?_
              refine t_getA (j := 14) X rfl fl_X10_54 dX10_canHang_61 ?_
              refine v_iload_n X dX10_canHang_64 1 1 rfl rfl ?_
              refine v_iload_n X dX10_canHang_65 3 3 rfl rfl ?_
              refine t_iast (j := 14) X hd rfl dX10_canHang_66 (fun ms hd => ?_)
              refine v_aload_n X dX10_canHang_67 0 0 rfl rfl ?_
              refine v_iload_n X dX10_canHang_68 1 1 rfl rfl ?_
              refine v_iconst (v := 1) X dX10_canHang_69 (by decide) ?_
              refine v_iadd X dX10_canHang_70 ?_
              refine v_iload_n X dX10_canHang_71 2 2 rfl rfl ?_
              refine t_callV X hK hd (ih (p1 + 1) p2) (lw_V q2124 q2126 qs76 q120 q2127) ⟨rfl, dn_X10_canHang⟩ rfl ⟨by omega, by omega⟩ rfl (Nat.le_of_ble_eq_true rfl) dX10_canHang_72 (fun v10 ms hd => ?_)
              show V K 4 (mkM am hn ms) 75 [(0, .ref am), (1, .int p1), (2, .int p2), (3, .int s3)] [.int (b2i v10)]
              refine v_ifZ_eq (tgt := 80) X dX10_canHang_75 (by decide) (fun q => ?_) (fun q => ?_)
              · have hd := Tcnd_f q hd
                refine t_iincL (lv2 := fun v11 => [(3, .int v11), (0, .ref am), (1, .int p1), (2, .int p2)]) X hd dX10_canHang_80 3 rfl (by decide : Int32.ofInt 1 = 1) (by decide) (fun v11 => rfl) (fun v11 hd => ?_)
                refine v_goto (tgt := 29) X dX10_canHang_83 (by decide) ?_
                exact v_loc [1, 2, 3, 0] rfl (Tlp_in (P := fun (s3 : Int32) m => V K 4 (mkM am hn m) 29 [(0, .ref am), (1, .int p1), (2, .int p2), (3, .int s3)] []) hd ih4)
              · have hd := Tcnd_t q hd
                refine v_iconst (v := 1) X dX10_canHang_78 (by decide) ?_
                have hd := Tlp_out hd ho5
                exact t_zret X hK hd rfl ho dX10_canHang_79
            · have hd := Tcnd_f q hd
              refine v_goto (tgt := 80) X dX10_canHang_57 (by decide) ?_
              refine t_iincL (lv2 := fun v12 => [(3, .int v12), (0, .ref am), (1, .int p1), (2, .int p2)]) X hd dX10_canHang_80 3 rfl (by decide : Int32.ofInt 1 = 1) (by decide) (fun v12 => rfl) (fun v12 hd => ?_)
              refine v_goto (tgt := 29) X dX10_canHang_83 (by decide) ?_
              exact v_loc [1, 2, 3, 0] rfl (Tlp_in (P := fun (s3 : Int32) m => V K 4 (mkM am hn m) 29 [(0, .ref am), (1, .int p1), (2, .int p2), (3, .int s3)] []) hd ih4)
      · have hd := Tcnd_f q hd
        refine v_aload_n X dX10_canHang_18 0 0 rfl rfl ?_
        refine v_iload_n X dX10_canHang_19 1 1 rfl rfl ?_
        refine v_iconst (v := 1) X dX10_canHang_20 (by decide) ?_
        refine v_iadd X dX10_canHang_21 ?_
        refine v_iload_n X dX10_canHang_22 2 2 rfl rfl ?_
        refine t_callV X hK hd (ih (p1 + 1) p2) (lw_V q2124 q2126 qs76 q120 q2127) ⟨rfl, dn_X10_canHang⟩ rfl ⟨by omega, by omega⟩ rfl (Nat.le_of_ble_eq_true rfl) dX10_canHang_23 (fun v13 ms hd => ?_)
        show V K 4 (mkM am hn ms) 26 [(0, .ref am), (1, .int p1), (2, .int p2)] [.int (b2i v13)]
        exact t_zret X hK hd rfl ho dX10_canHang_26
    · have hd := Tite_t q hd
      refine v_iconst (v := 1) X dX10_canHang_8 (by decide) ?_
      exact t_zret X hK hd rfl ho dX10_canHang_9
def dkwX10_bits_0 : List UInt8 := [3, 60, 26, 61, 28, 153, 0, 15, 132, 1, 1, 28, 28, 4, 100, 126, 61, 167, 255, 243, 27, 172]
abbrev dktX10_bits_0 : List UInt8 := dkwX10_bits_0 ++ []
theorem dksX10_bits_0 : cX10_bits.data.toList.drop 0 = dktX10_bits_0 := by decide +kernel
theorem dX10_bits_0 : decode cX10_bits 0 = .ok (.iconst 0, 1) := dk_3 (dk_at dksX10_bits_0 0 rfl rfl)
theorem dX10_bits_1 : decode cX10_bits 1 = .ok (.istore_n 1, 1) := dk_60 (dk_at dksX10_bits_0 1 rfl rfl)
theorem dX10_bits_2 : decode cX10_bits 2 = .ok (.iload_n 0, 1) := dk_26 (dk_at dksX10_bits_0 2 rfl rfl)
theorem dX10_bits_3 : decode cX10_bits 3 = .ok (.istore_n 2, 1) := dk_61 (dk_at dksX10_bits_0 3 rfl rfl)
theorem dX10_bits_4 : decode cX10_bits 4 = .ok (.iload_n 2, 1) := dk_28 (dk_at dksX10_bits_0 4 rfl rfl)
theorem dX10_bits_5 : decode cX10_bits 5 = .ok (.ifCond .eq 15, 3) := dk_153 0 15 (dk_at dksX10_bits_0 5 rfl rfl)
theorem dX10_bits_8 : decode cX10_bits 8 = .ok (.iinc 1 1, 3) := dk_132 1 1 (dk_at dksX10_bits_0 8 rfl rfl)
theorem dX10_bits_11 : decode cX10_bits 11 = .ok (.iload_n 2, 1) := dk_28 (dk_at dksX10_bits_0 11 rfl rfl)
theorem dX10_bits_12 : decode cX10_bits 12 = .ok (.iload_n 2, 1) := dk_28 (dk_at dksX10_bits_0 12 rfl rfl)
theorem dX10_bits_13 : decode cX10_bits 13 = .ok (.iconst 1, 1) := dk_4 (dk_at dksX10_bits_0 13 rfl rfl)
theorem dX10_bits_14 : decode cX10_bits 14 = .ok (.isub, 1) := dk_100 (dk_at dksX10_bits_0 14 rfl rfl)
theorem dX10_bits_15 : decode cX10_bits 15 = .ok (.iand, 1) := dk_126 (dk_at dksX10_bits_0 15 rfl rfl)
theorem dX10_bits_16 : decode cX10_bits 16 = .ok (.istore_n 2, 1) := dk_61 (dk_at dksX10_bits_0 16 rfl rfl)
theorem dX10_bits_17 : decode cX10_bits 17 = .ok (.goto (-13), 3) := dk_167 255 243 (dk_at dksX10_bits_0 17 rfl rfl)
theorem dX10_bits_20 : decode cX10_bits 20 = .ok (.iload_n 1, 1) := dk_27 (dk_at dksX10_bits_0 20 rfl rfl)
theorem dX10_bits_21 : decode cX10_bits 21 = .ok (.ireturn, 1) := dk_172 (dk_at dksX10_bits_0 21 rfl rfl)
theorem dn_X10_bits : yX10_bits.cls ≠ "java/lang/invoke/MethodHandle" ∧ yX10_bits.cls ≠ "java/lang/invoke/VarHandle" ∧ (parseMethodDescriptor yX10_bits.desc).map (fun d => d.parameters.length) = some 1 := by decide +kernel
noncomputable def M_X10_bits (p1 : Int32) : TM Int32 := TM.bind (TM.loop (S := Int32 × Int32) (E := Int32) (fun s1 => if s1.2 = 0 then TM.pure (Sum.inr s1.1) else TM.lv (s1.1 + 1) (fun v5 => TM.lv (s1.2 &&& (s1.2 - 1)) (fun v6 => TM.pure (Sum.inl (v5, v6))))) (0, p1)) (fun e4 => TM.pure e4)
set_option maxHeartbeats 4000000 in
theorem ct_X10_bits (G : gG) (am : Nat) (p1 : Int32) : gCtM G am yX10_bits cX10_bits 3 (some .int) 0 0 [.int p1] (M_X10_bits p1) (fun x : Int32 => some (.int x)) := by
  refine gCtM.of (by decide) (Nat.le_of_ble_eq_true rfl) (fun K hn ms ms' r hG X hK hd ho => ?_)
  subst hG
  have X : gX K cX10_bits 3 "BitingDoorsModel" "bits" (some .int) 0 0 := X
  show V K 3 (mkM am hn ms) 0 [(0, .int p1)] []
  unfold M_X10_bits at hd
  refine v_iconst (v := 0) X dX10_bits_0 (by decide) ?_
  refine v_istore_n (lv2 := [(1, .int 0), (0, .int p1)]) X dX10_bits_1 1 rfl (by decide) rfl ?_
  refine v_iload_n X dX10_bits_2 1 0 rfl rfl ?_
  refine v_istore_n (lv2 := [(2, .int p1), (1, .int 0), (0, .int p1)]) X dX10_bits_3 2 rfl (by decide) rfl ?_
  obtain ⟨e4, m1, hd, hd2⟩ := TM.bind_some hd
  have KX : V K 3 (mkM am hn m1) 20 [(1, .int e4)] [] := by
    clear hd
    have hd := hd2
    refine v_iload_n X dX10_bits_20 0 1 rfl rfl ?_
    exact t_iret X hK hd ho dX10_bits_21
  clear hd2
  refine v_loc [1, 0] rfl ?_
  refine Tloop_ind hd (fun (s1 : Int32 × Int32) m => V K 3 (mkM am hn m) 4 [(1, .int s1.1), (2, .int s1.2)] []) (fun s1 ms x m2 hd ih2 ho3 => ?_)
  refine v_iload_n X dX10_bits_4 1 2 rfl rfl ?_
  refine v_if_eq (tgt := 20) X dX10_bits_5 (by decide) (fun q => ?_) (fun q => ?_)
  · have hd := Tite_t q hd
    exact v_loc [0] rfl (t_at (P := fun (e4 : Int32) m => V K 3 (mkM am hn m) 20 [(1, .int e4)] []) (Tlp_out hd ho3) KX)
  · have hd := Tite_f q hd
    refine t_iincL (lv2 := fun v5 => [(1, .int v5), (2, .int s1.2)]) X hd dX10_bits_8 0 rfl (by decide : Int32.ofInt 1 = 1) (by decide) (fun v5 => rfl) (fun v5 hd => ?_)
    refine v_iload_n X dX10_bits_11 1 2 rfl rfl ?_
    refine v_iload_n X dX10_bits_12 1 2 rfl rfl ?_
    refine v_iconst (v := 1) X dX10_bits_13 (by decide) ?_
    refine v_isub X dX10_bits_14 ?_
    refine v_iand X dX10_bits_15 ?_
    refine t_lvI hd (fun v6 hd => ?_)
    refine v_istore_n (lv2 := [(2, .int v6), (1, .int v5)]) X dX10_bits_16 2 rfl (by decide) rfl ?_
    refine v_goto (tgt := 4) X dX10_bits_17 (by decide) ?_
    exact v_loc [1, 0] rfl (Tlp_in (P := fun (s1 : Int32 × Int32) m => V K 3 (mkM am hn m) 4 [(1, .int s1.1), (2, .int s1.2)] []) hd ih2)
def dkwX10_ones_0 : List UInt8 := [3, 61, 30, 66, 33, 9, 148, 153, 0, 15, 132, 2, 1, 33, 33, 10, 101, 127, 66, 167, 255, 241, 28, 172]
abbrev dktX10_ones_0 : List UInt8 := dkwX10_ones_0 ++ []
theorem dksX10_ones_0 : cX10_ones.data.toList.drop 0 = dktX10_ones_0 := by decide +kernel
theorem dX10_ones_0 : decode cX10_ones 0 = .ok (.iconst 0, 1) := dk_3 (dk_at dksX10_ones_0 0 rfl rfl)
theorem dX10_ones_1 : decode cX10_ones 1 = .ok (.istore_n 2, 1) := dk_61 (dk_at dksX10_ones_0 1 rfl rfl)
theorem dX10_ones_2 : decode cX10_ones 2 = .ok (.lload_n 0, 1) := dk_30 (dk_at dksX10_ones_0 2 rfl rfl)
theorem dX10_ones_3 : decode cX10_ones 3 = .ok (.lstore_n 3, 1) := dk_66 (dk_at dksX10_ones_0 3 rfl rfl)
theorem dX10_ones_4 : decode cX10_ones 4 = .ok (.lload_n 3, 1) := dk_33 (dk_at dksX10_ones_0 4 rfl rfl)
theorem dX10_ones_5 : decode cX10_ones 5 = .ok (.lconst 0, 1) := dk_9 (dk_at dksX10_ones_0 5 rfl rfl)
theorem dX10_ones_6 : decode cX10_ones 6 = .ok (.lcmp, 1) := dk_148 (dk_at dksX10_ones_0 6 rfl rfl)
theorem dX10_ones_7 : decode cX10_ones 7 = .ok (.ifCond .eq 15, 3) := dk_153 0 15 (dk_at dksX10_ones_0 7 rfl rfl)
theorem dX10_ones_10 : decode cX10_ones 10 = .ok (.iinc 2 1, 3) := dk_132 2 1 (dk_at dksX10_ones_0 10 rfl rfl)
theorem dX10_ones_13 : decode cX10_ones 13 = .ok (.lload_n 3, 1) := dk_33 (dk_at dksX10_ones_0 13 rfl rfl)
theorem dX10_ones_14 : decode cX10_ones 14 = .ok (.lload_n 3, 1) := dk_33 (dk_at dksX10_ones_0 14 rfl rfl)
theorem dX10_ones_15 : decode cX10_ones 15 = .ok (.lconst 1, 1) := dk_10 (dk_at dksX10_ones_0 15 rfl rfl)
theorem dX10_ones_16 : decode cX10_ones 16 = .ok (.lsub, 1) := dk_101 (dk_at dksX10_ones_0 16 rfl rfl)
theorem dX10_ones_17 : decode cX10_ones 17 = .ok (.land, 1) := dk_127 (dk_at dksX10_ones_0 17 rfl rfl)
theorem dX10_ones_18 : decode cX10_ones 18 = .ok (.lstore_n 3, 1) := dk_66 (dk_at dksX10_ones_0 18 rfl rfl)
theorem dX10_ones_19 : decode cX10_ones 19 = .ok (.goto (-15), 3) := dk_167 255 241 (dk_at dksX10_ones_0 19 rfl rfl)
theorem dX10_ones_22 : decode cX10_ones 22 = .ok (.iload_n 2, 1) := dk_28 (dk_at dksX10_ones_0 22 rfl rfl)
theorem dX10_ones_23 : decode cX10_ones 23 = .ok (.ireturn, 1) := dk_172 (dk_at dksX10_ones_0 23 rfl rfl)
theorem dn_X10_ones : yX10_ones.cls ≠ "java/lang/invoke/MethodHandle" ∧ yX10_ones.cls ≠ "java/lang/invoke/VarHandle" ∧ (parseMethodDescriptor yX10_ones.desc).map (fun d => d.parameters.length) = some 1 := by decide +kernel
noncomputable def M_X10_ones (p1 : Int64) : TM Int32 := TM.bind (TM.loop (S := Int32 × Int64) (E := Int32) (fun s1 => if (lg_cmp s1.2 0) = 0 then TM.pure (Sum.inr s1.1) else TM.lv (s1.1 + 1) (fun v5 => TM.lv (s1.2 &&& (s1.2 - 1)) (fun v6 => TM.pure (Sum.inl (v5, v6))))) (0, p1)) (fun e4 => TM.pure e4)
set_option maxHeartbeats 4000000 in
theorem ct_X10_ones (G : gG) (am : Nat) (p1 : Int64) : gCtM G am yX10_ones cX10_ones 5 (some .int) 0 0 [.long p1] (M_X10_ones p1) (fun x : Int32 => some (.int x)) := by
  refine gCtM.of (by decide) (Nat.le_of_ble_eq_true rfl) (fun K hn ms ms' r hG X hK hd ho => ?_)
  subst hG
  have X : gX K cX10_ones 5 "BitingDoorsModel" "ones" (some .int) 0 0 := X
  show V K 5 (mkM am hn ms) 0 [(0, .long p1)] []
  unfold M_X10_ones at hd
  refine v_iconst (v := 0) X dX10_ones_0 (by decide) ?_
  refine v_istore_n (lv2 := [(2, .int 0), (0, .long p1)]) X dX10_ones_1 2 rfl (by decide) rfl ?_
  refine v_lload_n X dX10_ones_2 1 0 rfl rfl ?_
  refine v_lstore_n (lv2 := [(3, .long p1), (2, .int 0), (0, .long p1)]) X dX10_ones_3 3 rfl (by decide) rfl ?_
  obtain ⟨e4, m1, hd, hd2⟩ := TM.bind_some hd
  have KX : V K 5 (mkM am hn m1) 22 [(2, .int e4)] [] := by
    clear hd
    have hd := hd2
    refine v_iload_n X dX10_ones_22 0 2 rfl rfl ?_
    exact t_iret X hK hd ho dX10_ones_23
  clear hd2
  refine v_loc [1, 0] rfl ?_
  refine Tloop_ind hd (fun (s1 : Int32 × Int64) m => V K 5 (mkM am hn m) 4 [(2, .int s1.1), (3, .long s1.2)] []) (fun s1 ms x m2 hd ih2 ho3 => ?_)
  refine v_lload_n X dX10_ones_4 1 3 rfl rfl ?_
  refine v_lconst (v := 0) X dX10_ones_5 (by decide) ?_
  refine v_lcmp X dX10_ones_6 ?_
  refine v_if_eq (tgt := 22) X dX10_ones_7 (by decide) (fun q => ?_) (fun q => ?_)
  · have hd := Tite_t q hd
    exact v_loc [0] rfl (t_at (P := fun (e4 : Int32) m => V K 5 (mkM am hn m) 22 [(2, .int e4)] []) (Tlp_out hd ho3) KX)
  · have hd := Tite_f q hd
    refine t_iincL (lv2 := fun v5 => [(2, .int v5), (3, .long s1.2)]) X hd dX10_ones_10 0 rfl (by decide : Int32.ofInt 1 = 1) (by decide) (fun v5 => rfl) (fun v5 hd => ?_)
    refine v_lload_n X dX10_ones_13 1 3 rfl rfl ?_
    refine v_lload_n X dX10_ones_14 1 3 rfl rfl ?_
    refine v_lconst (v := 1) X dX10_ones_15 (by decide) ?_
    refine v_lsub X dX10_ones_16 ?_
    refine v_land X dX10_ones_17 ?_
    refine t_lvL hd (fun v6 hd => ?_)
    refine v_lstore_n (lv2 := [(3, .long v6), (2, .int v5)]) X dX10_ones_18 3 rfl (by decide) rfl ?_
    refine v_goto (tgt := 4) X dX10_ones_19 (by decide) ?_
    exact v_loc [1, 0] rfl (Tlp_in (P := fun (s1 : Int32 × Int64) m => V K 5 (mkM am hn m) 4 [(2, .int s1.1), (3, .long s1.2)] []) hd ih2)
def dkwX10_valueOf_4 : List UInt8 := [184, 1, 74, 172, 42, 28, 16, 6, 182, 1, 11, 172]
abbrev dktX10_valueOf_4 : List UInt8 := dkwX10_valueOf_4 ++ []
def dkwX10_valueOf_3 : List UInt8 := [184, 1, 32, 42, 180, 0, 48, 7, 28, 104, 29, 96, 47, 184, 1, 32, 96, 172, 42, 180, 0, 51, 28, 46]
abbrev dktX10_valueOf_3 : List UInt8 := dkwX10_valueOf_3 ++ dktX10_valueOf_4
def dkwX10_valueOf_2 : List UInt8 := [42, 180, 0, 78, 28, 46, 172, 42, 28, 6, 182, 1, 11, 172, 42, 180, 0, 45, 7, 28, 104, 29, 96, 47]
abbrev dktX10_valueOf_2 : List UInt8 := dkwX10_valueOf_2 ++ dktX10_valueOf_3
def dkwX10_valueOf_1 : List UInt8 := [171, 0, 0, 0, 93, 0, 0, 0, 4, 0, 0, 0, 6, 0, 0, 0, 83, 0, 0, 0, 23, 0, 0, 0, 41, 0, 0, 0, 24, 0, 0, 0, 48, 0, 0, 0, 25, 0, 0, 0, 55]
abbrev dktX10_valueOf_1 : List UInt8 := dkwX10_valueOf_1 ++ dktX10_valueOf_2
def dkwX10_valueOf_0 : List UInt8 := [42, 28, 7, 182, 1, 11, 62, 27, 16, 50, 100]
abbrev dktX10_valueOf_0 : List UInt8 := dkwX10_valueOf_0 ++ dktX10_valueOf_1
theorem dksX10_valueOf_0 : cX10_valueOf.data.toList.drop 0 = dktX10_valueOf_0 := by decide +kernel
theorem dksX10_valueOf_1 : cX10_valueOf.data.toList.drop 11 = dktX10_valueOf_1 := dk_seg dksX10_valueOf_0 11 rfl rfl
theorem dksX10_valueOf_2 : cX10_valueOf.data.toList.drop 52 = dktX10_valueOf_2 := dk_seg dksX10_valueOf_1 41 rfl rfl
theorem dksX10_valueOf_3 : cX10_valueOf.data.toList.drop 76 = dktX10_valueOf_3 := dk_seg dksX10_valueOf_2 24 rfl rfl
theorem dksX10_valueOf_4 : cX10_valueOf.data.toList.drop 100 = dktX10_valueOf_4 := dk_seg dksX10_valueOf_3 24 rfl rfl
theorem dX10_valueOf_0 : decode cX10_valueOf 0 = .ok (.aload_n 0, 1) := dk_42 (dk_at dksX10_valueOf_0 0 rfl rfl)
theorem dX10_valueOf_1 : decode cX10_valueOf 1 = .ok (.iload_n 2, 1) := dk_28 (dk_at dksX10_valueOf_0 1 rfl rfl)
theorem dX10_valueOf_2 : decode cX10_valueOf 2 = .ok (.iconst 4, 1) := dk_7 (dk_at dksX10_valueOf_0 2 rfl rfl)
theorem dX10_valueOf_3 : decode cX10_valueOf 3 = .ok (.invokevirtual 267, 3) := dk_182 1 11 (dk_at dksX10_valueOf_0 3 rfl rfl)
theorem dX10_valueOf_6 : decode cX10_valueOf 6 = .ok (.istore_n 3, 1) := dk_62 (dk_at dksX10_valueOf_0 6 rfl rfl)
theorem dX10_valueOf_7 : decode cX10_valueOf 7 = .ok (.iload_n 1, 1) := dk_27 (dk_at dksX10_valueOf_0 7 rfl rfl)
theorem dX10_valueOf_8 : decode cX10_valueOf 8 = .ok (.bipush 50, 2) := dk_16 50 (dk_at dksX10_valueOf_0 8 rfl rfl)
theorem dX10_valueOf_10 : decode cX10_valueOf 10 = .ok (.isub, 1) := dk_100 (dk_at dksX10_valueOf_0 10 rfl rfl)
theorem dX10_valueOf_11 : decode cX10_valueOf 11 = .ok (.lookupswitch 93 #[(6, 83), (23, 41), (24, 48), (25, 55)], 41) := by decide +kernel
theorem dX10_valueOf_52 : decode cX10_valueOf 52 = .ok (.aload_n 0, 1) := dk_42 (dk_at dksX10_valueOf_2 0 rfl rfl)
theorem dX10_valueOf_53 : decode cX10_valueOf 53 = .ok (.getfield 78, 3) := dk_180 0 78 (dk_at dksX10_valueOf_2 1 rfl rfl)
theorem dX10_valueOf_56 : decode cX10_valueOf 56 = .ok (.iload_n 2, 1) := dk_28 (dk_at dksX10_valueOf_2 4 rfl rfl)
theorem dX10_valueOf_57 : decode cX10_valueOf 57 = .ok (.iaload, 1) := dk_46 (dk_at dksX10_valueOf_2 5 rfl rfl)
theorem dX10_valueOf_58 : decode cX10_valueOf 58 = .ok (.ireturn, 1) := dk_172 (dk_at dksX10_valueOf_2 6 rfl rfl)
theorem dX10_valueOf_59 : decode cX10_valueOf 59 = .ok (.aload_n 0, 1) := dk_42 (dk_at dksX10_valueOf_2 7 rfl rfl)
theorem dX10_valueOf_60 : decode cX10_valueOf 60 = .ok (.iload_n 2, 1) := dk_28 (dk_at dksX10_valueOf_2 8 rfl rfl)
theorem dX10_valueOf_61 : decode cX10_valueOf 61 = .ok (.iconst 3, 1) := dk_6 (dk_at dksX10_valueOf_2 9 rfl rfl)
theorem dX10_valueOf_62 : decode cX10_valueOf 62 = .ok (.invokevirtual 267, 3) := dk_182 1 11 (dk_at dksX10_valueOf_2 10 rfl rfl)
theorem dX10_valueOf_65 : decode cX10_valueOf 65 = .ok (.ireturn, 1) := dk_172 (dk_at dksX10_valueOf_2 13 rfl rfl)
theorem dX10_valueOf_66 : decode cX10_valueOf 66 = .ok (.aload_n 0, 1) := dk_42 (dk_at dksX10_valueOf_2 14 rfl rfl)
theorem dX10_valueOf_67 : decode cX10_valueOf 67 = .ok (.getfield 45, 3) := dk_180 0 45 (dk_at dksX10_valueOf_2 15 rfl rfl)
theorem dX10_valueOf_70 : decode cX10_valueOf 70 = .ok (.iconst 4, 1) := dk_7 (dk_at dksX10_valueOf_2 18 rfl rfl)
theorem dX10_valueOf_71 : decode cX10_valueOf 71 = .ok (.iload_n 2, 1) := dk_28 (dk_at dksX10_valueOf_2 19 rfl rfl)
theorem dX10_valueOf_72 : decode cX10_valueOf 72 = .ok (.imul, 1) := dk_104 (dk_at dksX10_valueOf_2 20 rfl rfl)
theorem dX10_valueOf_73 : decode cX10_valueOf 73 = .ok (.iload_n 3, 1) := dk_29 (dk_at dksX10_valueOf_2 21 rfl rfl)
theorem dX10_valueOf_74 : decode cX10_valueOf 74 = .ok (.iadd, 1) := dk_96 (dk_at dksX10_valueOf_2 22 rfl rfl)
theorem dX10_valueOf_75 : decode cX10_valueOf 75 = .ok (.laload, 1) := dk_47 (dk_at dksX10_valueOf_2 23 rfl rfl)
theorem dX10_valueOf_76 : decode cX10_valueOf 76 = .ok (.invokestatic 288, 3) := dk_184 1 32 (dk_at dksX10_valueOf_3 0 rfl rfl)
theorem dX10_valueOf_79 : decode cX10_valueOf 79 = .ok (.aload_n 0, 1) := dk_42 (dk_at dksX10_valueOf_3 3 rfl rfl)
theorem dX10_valueOf_80 : decode cX10_valueOf 80 = .ok (.getfield 48, 3) := dk_180 0 48 (dk_at dksX10_valueOf_3 4 rfl rfl)
theorem dX10_valueOf_83 : decode cX10_valueOf 83 = .ok (.iconst 4, 1) := dk_7 (dk_at dksX10_valueOf_3 7 rfl rfl)
theorem dX10_valueOf_84 : decode cX10_valueOf 84 = .ok (.iload_n 2, 1) := dk_28 (dk_at dksX10_valueOf_3 8 rfl rfl)
theorem dX10_valueOf_85 : decode cX10_valueOf 85 = .ok (.imul, 1) := dk_104 (dk_at dksX10_valueOf_3 9 rfl rfl)
theorem dX10_valueOf_86 : decode cX10_valueOf 86 = .ok (.iload_n 3, 1) := dk_29 (dk_at dksX10_valueOf_3 10 rfl rfl)
theorem dX10_valueOf_87 : decode cX10_valueOf 87 = .ok (.iadd, 1) := dk_96 (dk_at dksX10_valueOf_3 11 rfl rfl)
theorem dX10_valueOf_88 : decode cX10_valueOf 88 = .ok (.laload, 1) := dk_47 (dk_at dksX10_valueOf_3 12 rfl rfl)
theorem dX10_valueOf_89 : decode cX10_valueOf 89 = .ok (.invokestatic 288, 3) := dk_184 1 32 (dk_at dksX10_valueOf_3 13 rfl rfl)
theorem dX10_valueOf_92 : decode cX10_valueOf 92 = .ok (.iadd, 1) := dk_96 (dk_at dksX10_valueOf_3 16 rfl rfl)
theorem dX10_valueOf_93 : decode cX10_valueOf 93 = .ok (.ireturn, 1) := dk_172 (dk_at dksX10_valueOf_3 17 rfl rfl)
theorem dX10_valueOf_94 : decode cX10_valueOf 94 = .ok (.aload_n 0, 1) := dk_42 (dk_at dksX10_valueOf_3 18 rfl rfl)
theorem dX10_valueOf_95 : decode cX10_valueOf 95 = .ok (.getfield 51, 3) := dk_180 0 51 (dk_at dksX10_valueOf_3 19 rfl rfl)
theorem dX10_valueOf_98 : decode cX10_valueOf 98 = .ok (.iload_n 2, 1) := dk_28 (dk_at dksX10_valueOf_3 22 rfl rfl)
theorem dX10_valueOf_99 : decode cX10_valueOf 99 = .ok (.iaload, 1) := dk_46 (dk_at dksX10_valueOf_3 23 rfl rfl)
theorem dX10_valueOf_100 : decode cX10_valueOf 100 = .ok (.invokestatic 330, 3) := dk_184 1 74 (dk_at dksX10_valueOf_4 0 rfl rfl)
theorem dX10_valueOf_103 : decode cX10_valueOf 103 = .ok (.ireturn, 1) := dk_172 (dk_at dksX10_valueOf_4 3 rfl rfl)
theorem dX10_valueOf_104 : decode cX10_valueOf 104 = .ok (.aload_n 0, 1) := dk_42 (dk_at dksX10_valueOf_4 4 rfl rfl)
theorem dX10_valueOf_105 : decode cX10_valueOf 105 = .ok (.iload_n 2, 1) := dk_28 (dk_at dksX10_valueOf_4 5 rfl rfl)
theorem dX10_valueOf_106 : decode cX10_valueOf 106 = .ok (.bipush 6, 2) := dk_16 6 (dk_at dksX10_valueOf_4 6 rfl rfl)
theorem dX10_valueOf_108 : decode cX10_valueOf 108 = .ok (.invokevirtual 267, 3) := dk_182 1 11 (dk_at dksX10_valueOf_4 8 rfl rfl)
theorem dX10_valueOf_111 : decode cX10_valueOf 111 = .ok (.ireturn, 1) := dk_172 (dk_at dksX10_valueOf_4 11 rfl rfl)
theorem dn_X10_valueOf : yX10_valueOf.cls ≠ "java/lang/invoke/MethodHandle" ∧ yX10_valueOf.cls ≠ "java/lang/invoke/VarHandle" ∧ (parseMethodDescriptor yX10_valueOf.desc).map (fun d => d.parameters.length) = some 2 := by decide +kernel
noncomputable def M_X10_valueOf (p1 : Int32) (p2 : Int32) : TM Int32 := TM.bind (M_X10_of p2 4) (fun v1 => if (p1 - 50) = 6 then TM.bind (tA 29 10 p2) (fun v10 => TM.bind (M_X10_bits v10) (fun v11 => TM.pure v11)) else if (p1 - 50) = 23 then TM.bind (tA 43 10 p2) (fun v9 => TM.pure v9) else if (p1 - 50) = 24 then TM.bind (M_X10_of p2 3) (fun v8 => TM.pure v8) else if (p1 - 50) = 25 then TM.bind (tB 27 40 ((4 * p2) + v1)) (fun v4 => TM.bind (M_X10_ones v4) (fun v5 => TM.bind (tB 28 40 ((4 * p2) + v1)) (fun v6 => TM.bind (M_X10_ones v6) (fun v7 => TM.pure (v5 + v7))))) else TM.bind (M_X10_of p2 6) (fun v3 => TM.pure v3))
set_option maxHeartbeats 4000000 in
theorem ct_X10_valueOf (G : gG) (am : Nat) (p1 : Int32) (p2 : Int32) : gCtM G am yX10_valueOf cX10_valueOf 4 (some .int) 1 24 [.ref am, .int p1, .int p2] (M_X10_valueOf p1 p2) (fun x : Int32 => some (.int x)) := by
  refine gCtM.of (by decide) (Nat.le_of_ble_eq_true rfl) (fun K hn ms ms' r hG X hK hd ho => ?_)
  subst hG
  have X : gX K cX10_valueOf 4 "BitingDoorsModel" "valueOf" (some .int) 1 24 := X
  show V K 4 (mkM am hn ms) 0 [(0, .ref am), (1, .int p1), (2, .int p2)] []
  unfold M_X10_valueOf at hd
  refine v_aload_n X dX10_valueOf_0 0 0 rfl rfl ?_
  refine v_iload_n X dX10_valueOf_1 2 2 rfl rfl ?_
  refine v_iconst (v := 4) X dX10_valueOf_2 (by decide) ?_
  refine t_callV X hK hd (ct_X10_of _ am p2 4) (lw_V q1994 q1996 qs59 q120 q1997) ⟨rfl, dn_X10_of⟩ rfl ⟨by decide, by decide⟩ rfl (Nat.le_of_ble_eq_true rfl) dX10_valueOf_3 (fun v1 ms hd => ?_)
  show V K 4 (mkM am hn ms) 6 [(0, .ref am), (1, .int p1), (2, .int p2)] [.int v1]
  refine v_istore_n (lv2 := [(3, .int v1), (0, .ref am), (1, .int p1), (2, .int p2)]) X dX10_valueOf_6 3 rfl (by decide) rfl ?_
  refine v_iload_n X dX10_valueOf_7 2 1 rfl rfl ?_
  refine v_bipush (v := 50) X dX10_valueOf_8 (by decide) ?_
  refine v_isub X dX10_valueOf_10 ?_
  by_cases q6 : (p1 - 50) = 6
  · have hd := Tite_t q6 hd
    refine v_lookupK (k := 6) (tgt := 94) (off := 83) X dX10_valueOf_11 q6 (by decide) (by decide) (by decide) ?_
    refine v_aload_n X dX10_valueOf_94 1 0 rfl rfl ?_
    refine t_getA (j := 13) X rfl fl_X10_51 dX10_valueOf_95 ?_
    refine v_iload_n X dX10_valueOf_98 3 2 rfl rfl ?_
    refine t_iald (j := 13) X hd rfl dX10_valueOf_99 (fun v10 hd => ?_)
    refine t_callS X hK hd (ct_X10_bits _ am v10) (lw_S q2109 q2110 q120 q2111) dn_X10_bits rfl ⟨by decide, by decide⟩ rfl (Nat.le_of_ble_eq_true rfl) dX10_valueOf_100 (fun v11 ms hd => ?_)
    show V K 4 (mkM am hn ms) 103 [(3, .int v1), (0, .ref am), (1, .int p1), (2, .int p2)] [.int v11]
    exact t_iret X hK hd ho dX10_valueOf_103
  · have hd := Tite_f q6 hd
    by_cases q23 : (p1 - 50) = 23
    · have hd := Tite_t q23 hd
      refine v_lookupK (k := 23) (tgt := 52) (off := 41) X dX10_valueOf_11 q23 (by decide) (by decide) (by decide) ?_
      refine v_aload_n X dX10_valueOf_52 1 0 rfl rfl ?_
      refine t_getA (j := 22) X rfl fl_X10_78 dX10_valueOf_53 ?_
      refine v_iload_n X dX10_valueOf_56 3 2 rfl rfl ?_
      refine t_iald (j := 22) X hd rfl dX10_valueOf_57 (fun v9 hd => ?_)
      exact t_iret X hK hd ho dX10_valueOf_58
    · have hd := Tite_f q23 hd
      by_cases q24 : (p1 - 50) = 24
      · have hd := Tite_t q24 hd
        refine v_lookupK (k := 24) (tgt := 59) (off := 48) X dX10_valueOf_11 q24 (by decide) (by decide) (by decide) ?_
        refine v_aload_n X dX10_valueOf_59 1 0 rfl rfl ?_
        refine v_iload_n X dX10_valueOf_60 3 2 rfl rfl ?_
        refine v_iconst (v := 3) X dX10_valueOf_61 (by decide) ?_
        refine t_callV X hK hd (ct_X10_of _ am p2 3) (lw_V q1994 q1996 qs59 q120 q1997) ⟨rfl, dn_X10_of⟩ rfl ⟨by decide, by decide⟩ rfl (Nat.le_of_ble_eq_true rfl) dX10_valueOf_62 (fun v8 ms hd => ?_)
        show V K 4 (mkM am hn ms) 65 [(3, .int v1), (0, .ref am), (1, .int p1), (2, .int p2)] [.int v8]
        exact t_iret X hK hd ho dX10_valueOf_65
      · have hd := Tite_f q24 hd
        by_cases q25 : (p1 - 50) = 25
        · have hd := Tite_t q25 hd
          refine v_lookupK (k := 25) (tgt := 66) (off := 55) X dX10_valueOf_11 q25 (by decide) (by decide) (by decide) ?_
          refine v_aload_n X dX10_valueOf_66 1 0 rfl rfl ?_
          refine t_getA (j := 11) X rfl fl_X10_45 dX10_valueOf_67 ?_
          refine v_iconst (v := 4) X dX10_valueOf_70 (by decide) ?_
          refine v_iload_n X dX10_valueOf_71 3 2 rfl rfl ?_
          refine v_imul X dX10_valueOf_72 ?_
          refine v_iload_n X dX10_valueOf_73 0 3 rfl rfl ?_
          refine v_iadd X dX10_valueOf_74 ?_
          refine t_lald (j := 11) X hd rfl dX10_valueOf_75 (fun v4 hd => ?_)
          refine t_callS X hK hd (ct_X10_ones _ am v4) (lw_S q2038 q2039 q120 q2040) dn_X10_ones rfl ⟨by decide, by decide⟩ rfl (Nat.le_of_ble_eq_true rfl) dX10_valueOf_76 (fun v5 ms hd => ?_)
          show V K 4 (mkM am hn ms) 79 [(3, .int v1), (0, .ref am), (1, .int p1), (2, .int p2)] [.int v5]
          refine v_aload_n X dX10_valueOf_79 1 0 rfl rfl ?_
          refine t_getA (j := 12) X rfl fl_X10_48 dX10_valueOf_80 ?_
          refine v_iconst (v := 4) X dX10_valueOf_83 (by decide) ?_
          refine v_iload_n X dX10_valueOf_84 3 2 rfl rfl ?_
          refine v_imul X dX10_valueOf_85 ?_
          refine v_iload_n X dX10_valueOf_86 0 3 rfl rfl ?_
          refine v_iadd X dX10_valueOf_87 ?_
          refine t_lald (j := 12) X hd rfl dX10_valueOf_88 (fun v6 hd => ?_)
          refine t_callS X hK hd (ct_X10_ones _ am v6) (lw_S q2038 q2039 q120 q2040) dn_X10_ones rfl ⟨by decide, by decide⟩ rfl (Nat.le_of_ble_eq_true rfl) dX10_valueOf_89 (fun v7 ms hd => ?_)
          show V K 4 (mkM am hn ms) 92 [(3, .int v1), (0, .ref am), (1, .int p1), (2, .int p2)] [.int v7, .int v5]
          refine v_iadd X dX10_valueOf_92 ?_
          exact t_iret X hK hd ho dX10_valueOf_93
        · have hd := Tite_f q25 hd
          refine v_lookup (tgt := 104) (off := 93) X dX10_valueOf_11 (by decide) (by rw [lv_osw q6 (by decide)]; rw [lv_osw q23 (by decide)]; rw [lv_osw q24 (by decide)]; rw [lv_osw q25 (by decide)]; rfl) (by decide) ?_
          refine v_aload_n X dX10_valueOf_104 1 0 rfl rfl ?_
          refine v_iload_n X dX10_valueOf_105 3 2 rfl rfl ?_
          refine v_bipush (v := 6) X dX10_valueOf_106 (by decide) ?_
          refine t_callV X hK hd (ct_X10_of _ am p2 6) (lw_V q1994 q1996 qs59 q120 q1997) ⟨rfl, dn_X10_of⟩ rfl ⟨by decide, by decide⟩ rfl (Nat.le_of_ble_eq_true rfl) dX10_valueOf_108 (fun v3 ms hd => ?_)
          show V K 4 (mkM am hn ms) 111 [(3, .int v1), (0, .ref am), (1, .int p1), (2, .int p2)] [.int v3]
          exact t_iret X hK hd ho dX10_valueOf_111
def dkwX10_forcedAt_1 : List UInt8 := [167, 0, 4, 2, 172]
abbrev dktX10_forcedAt_1 : List UInt8 := dkwX10_forcedAt_1 ++ []
def dkwX10_forcedAt_0 : List UInt8 := [42, 3, 181, 0, 108, 27, 155, 0, 20, 27, 42, 180, 1, 77, 162, 0, 12, 42, 180, 0, 66, 27, 46]
abbrev dktX10_forcedAt_0 : List UInt8 := dkwX10_forcedAt_0 ++ dktX10_forcedAt_1
theorem dksX10_forcedAt_0 : cX10_forcedAt.data.toList.drop 0 = dktX10_forcedAt_0 := by decide +kernel
theorem dksX10_forcedAt_1 : cX10_forcedAt.data.toList.drop 23 = dktX10_forcedAt_1 := dk_seg dksX10_forcedAt_0 23 rfl rfl
theorem dX10_forcedAt_0 : decode cX10_forcedAt 0 = .ok (.aload_n 0, 1) := dk_42 (dk_at dksX10_forcedAt_0 0 rfl rfl)
theorem dX10_forcedAt_1 : decode cX10_forcedAt 1 = .ok (.iconst 0, 1) := dk_3 (dk_at dksX10_forcedAt_0 1 rfl rfl)
theorem dX10_forcedAt_2 : decode cX10_forcedAt 2 = .ok (.putfield 108, 3) := dk_181 0 108 (dk_at dksX10_forcedAt_0 2 rfl rfl)
theorem dX10_forcedAt_5 : decode cX10_forcedAt 5 = .ok (.iload_n 1, 1) := dk_27 (dk_at dksX10_forcedAt_0 5 rfl rfl)
theorem dX10_forcedAt_6 : decode cX10_forcedAt 6 = .ok (.ifCond .lt 20, 3) := dk_155 0 20 (dk_at dksX10_forcedAt_0 6 rfl rfl)
theorem dX10_forcedAt_9 : decode cX10_forcedAt 9 = .ok (.iload_n 1, 1) := dk_27 (dk_at dksX10_forcedAt_0 9 rfl rfl)
theorem dX10_forcedAt_10 : decode cX10_forcedAt 10 = .ok (.aload_n 0, 1) := dk_42 (dk_at dksX10_forcedAt_0 10 rfl rfl)
theorem dX10_forcedAt_11 : decode cX10_forcedAt 11 = .ok (.getfield 333, 3) := dk_180 1 77 (dk_at dksX10_forcedAt_0 11 rfl rfl)
theorem dX10_forcedAt_14 : decode cX10_forcedAt 14 = .ok (.if_icmp .ge 12, 3) := dk_162 0 12 (dk_at dksX10_forcedAt_0 14 rfl rfl)
theorem dX10_forcedAt_17 : decode cX10_forcedAt 17 = .ok (.aload_n 0, 1) := dk_42 (dk_at dksX10_forcedAt_0 17 rfl rfl)
theorem dX10_forcedAt_18 : decode cX10_forcedAt 18 = .ok (.getfield 66, 3) := dk_180 0 66 (dk_at dksX10_forcedAt_0 18 rfl rfl)
theorem dX10_forcedAt_21 : decode cX10_forcedAt 21 = .ok (.iload_n 1, 1) := dk_27 (dk_at dksX10_forcedAt_0 21 rfl rfl)
theorem dX10_forcedAt_22 : decode cX10_forcedAt 22 = .ok (.iaload, 1) := dk_46 (dk_at dksX10_forcedAt_0 22 rfl rfl)
theorem dX10_forcedAt_23 : decode cX10_forcedAt 23 = .ok (.goto 4, 3) := dk_167 0 4 (dk_at dksX10_forcedAt_1 0 rfl rfl)
theorem dX10_forcedAt_26 : decode cX10_forcedAt 26 = .ok (.iconst (-1), 1) := dk_2 (dk_at dksX10_forcedAt_1 3 rfl rfl)
theorem dX10_forcedAt_27 : decode cX10_forcedAt 27 = .ok (.ireturn, 1) := dk_172 (dk_at dksX10_forcedAt_1 4 rfl rfl)
theorem fl_X10_333 : gFl "BitingDoorsModel" 333 [8] 37 := by
  intro args s hts hN ci hc
  simp only [List.mem_cons, List.not_mem_nil, or_false] at hc
  subst hc
  exact ⟨RX10, TX10, 64, "BitingDoorsModel", gCl_X10, in_X10, by decide, Or.inl (hts _ q1687), fun _ h => h⟩
theorem fl_X10_66 : gFl "BitingDoorsModel" 66 [8] 36 := by
  intro args s hts hN ci hc
  simp only [List.mem_cons, List.not_mem_nil, or_false] at hc
  subst hc
  exact ⟨RX10, TX10, 64, "BitingDoorsModel", gCl_X10, in_X10, by decide, Or.inl (hts _ q1686), fun _ h => h⟩
theorem dn_X10_forcedAt : yX10_forcedAt.cls ≠ "java/lang/invoke/MethodHandle" ∧ yX10_forcedAt.cls ≠ "java/lang/invoke/VarHandle" ∧ (parseMethodDescriptor yX10_forcedAt.desc).map (fun d => d.parameters.length) = some 1 := by decide +kernel
noncomputable def M_X10_forcedAt (p1 : Int32) : TM Int32 := TM.bind (sI 0 0) (fun _ => TM.bind ((if p1 < 0 then TM.pure (-1) else TM.bind (tI 37) (fun v2 => if v2 ≤ p1 then TM.pure (-1) else TM.bind (tA 36 10 p1) (fun v3 => TM.pure v3)) : TM (Int32))) (fun u1 => TM.pure u1))
set_option maxHeartbeats 4000000 in
theorem ct_X10_forcedAt (G : gG) (am : Nat) (p1 : Int32) : gCtM G am yX10_forcedAt cX10_forcedAt 2 (some .int) 0 0 [.ref am, .int p1] (M_X10_forcedAt p1) (fun x : Int32 => some (.int x)) := by
  refine gCtM.of (by decide) (Nat.le_of_ble_eq_true rfl) (fun K hn ms ms' r hG X hK hd ho => ?_)
  subst hG
  have X : gX K cX10_forcedAt 2 "BitingDoorsModel" "forcedAt" (some .int) 0 0 := X
  show V K 2 (mkM am hn ms) 0 [(0, .ref am), (1, .int p1)] []
  unfold M_X10_forcedAt at hd
  refine v_aload_n X dX10_forcedAt_0 0 0 rfl rfl ?_
  refine v_iconst (v := 0) X dX10_forcedAt_1 (by decide) ?_
  refine t_putI X hd rfl fp_X10_108 dX10_forcedAt_2 (fun ms hd => ?_)
  refine v_iload_n X dX10_forcedAt_5 1 1 rfl rfl ?_
  obtain ⟨u1, m1, hd, hd2⟩ := TM.bind_some hd
  have KJ : V K 2 (mkM am hn m1) 27 [] [.int u1] := by
    clear hd
    have hd := hd2
    exact t_iret X hK hd ho dX10_forcedAt_27
  clear hd2
  refine v_if_lt (tgt := 26) X dX10_forcedAt_6 (by decide) (fun q => ?_) (fun q => ?_)
  · have hd := Tite_t q hd
    refine v_iconst (v := (-1)) X dX10_forcedAt_26 (by decide) ?_
    exact v_loc [] rfl (t_at (P := fun (u1 : Int32) m => V K 2 (mkM am hn m) 27 [] [.int u1]) hd KJ)
  · have hd := Tite_f q hd
    refine v_iload_n X dX10_forcedAt_9 1 1 rfl rfl ?_
    refine v_aload_n X dX10_forcedAt_10 0 0 rfl rfl ?_
    refine t_getI X hd rfl fl_X10_333 dX10_forcedAt_11 (fun v2 hd => ?_)
    refine v_icmp_ge (tgt := 26) X dX10_forcedAt_14 (by decide) (fun q => ?_) (fun q => ?_)
    · have hd := Tite_t q hd
      refine v_iconst (v := (-1)) X dX10_forcedAt_26 (by decide) ?_
      exact v_loc [] rfl (t_at (P := fun (u1 : Int32) m => V K 2 (mkM am hn m) 27 [] [.int u1]) hd KJ)
    · have hd := Tite_f q hd
      refine v_aload_n X dX10_forcedAt_17 0 0 rfl rfl ?_
      refine t_getA (j := 18) X rfl fl_X10_66 dX10_forcedAt_18 ?_
      refine v_iload_n X dX10_forcedAt_21 1 1 rfl rfl ?_
      refine t_iald (j := 18) X hd rfl dX10_forcedAt_22 (fun v3 hd => ?_)
      refine v_goto (tgt := 27) X dX10_forcedAt_23 (by decide) ?_
      exact v_loc [] rfl (t_at (P := fun (u1 : Int32) m => V K 2 (mkM am hn m) 27 [] [.int u1]) hd KJ)
def dkwX10_layState_1 : List UInt8 := [180, 0, 78, 29, 28, 6, 112, 79, 28, 6, 108, 61, 132, 3, 1, 167, 255, 232, 42, 182, 1, 104, 177]
abbrev dktX10_layState_1 : List UInt8 := dkwX10_layState_1 ++ []
def dkwX10_layState_0 : List UInt8 := [42, 27, 16, 100, 112, 181, 1, 98, 27, 16, 100, 108, 61, 3, 62, 29, 42, 182, 0, 211, 162, 0, 22, 42]
abbrev dktX10_layState_0 : List UInt8 := dkwX10_layState_0 ++ dktX10_layState_1
theorem dksX10_layState_0 : cX10_layState.data.toList.drop 0 = dktX10_layState_0 := by decide +kernel
theorem dksX10_layState_1 : cX10_layState.data.toList.drop 24 = dktX10_layState_1 := dk_seg dksX10_layState_0 24 rfl rfl
theorem dX10_layState_0 : decode cX10_layState 0 = .ok (.aload_n 0, 1) := dk_42 (dk_at dksX10_layState_0 0 rfl rfl)
theorem dX10_layState_1 : decode cX10_layState 1 = .ok (.iload_n 1, 1) := dk_27 (dk_at dksX10_layState_0 1 rfl rfl)
theorem dX10_layState_2 : decode cX10_layState 2 = .ok (.bipush 100, 2) := dk_16 100 (dk_at dksX10_layState_0 2 rfl rfl)
theorem dX10_layState_4 : decode cX10_layState 4 = .ok (.irem, 1) := dk_112 (dk_at dksX10_layState_0 4 rfl rfl)
theorem dX10_layState_5 : decode cX10_layState 5 = .ok (.putfield 354, 3) := dk_181 1 98 (dk_at dksX10_layState_0 5 rfl rfl)
theorem dX10_layState_8 : decode cX10_layState 8 = .ok (.iload_n 1, 1) := dk_27 (dk_at dksX10_layState_0 8 rfl rfl)
theorem dX10_layState_9 : decode cX10_layState 9 = .ok (.bipush 100, 2) := dk_16 100 (dk_at dksX10_layState_0 9 rfl rfl)
theorem dX10_layState_11 : decode cX10_layState 11 = .ok (.idiv, 1) := dk_108 (dk_at dksX10_layState_0 11 rfl rfl)
theorem dX10_layState_12 : decode cX10_layState 12 = .ok (.istore_n 2, 1) := dk_61 (dk_at dksX10_layState_0 12 rfl rfl)
theorem dX10_layState_13 : decode cX10_layState 13 = .ok (.iconst 0, 1) := dk_3 (dk_at dksX10_layState_0 13 rfl rfl)
theorem dX10_layState_14 : decode cX10_layState 14 = .ok (.istore_n 3, 1) := dk_62 (dk_at dksX10_layState_0 14 rfl rfl)
theorem dX10_layState_15 : decode cX10_layState 15 = .ok (.iload_n 3, 1) := dk_29 (dk_at dksX10_layState_0 15 rfl rfl)
theorem dX10_layState_16 : decode cX10_layState 16 = .ok (.aload_n 0, 1) := dk_42 (dk_at dksX10_layState_0 16 rfl rfl)
theorem dX10_layState_17 : decode cX10_layState 17 = .ok (.invokevirtual 211, 3) := dk_182 0 211 (dk_at dksX10_layState_0 17 rfl rfl)
theorem dX10_layState_20 : decode cX10_layState 20 = .ok (.if_icmp .ge 22, 3) := dk_162 0 22 (dk_at dksX10_layState_0 20 rfl rfl)
theorem dX10_layState_23 : decode cX10_layState 23 = .ok (.aload_n 0, 1) := dk_42 (dk_at dksX10_layState_0 23 rfl rfl)
theorem dX10_layState_24 : decode cX10_layState 24 = .ok (.getfield 78, 3) := dk_180 0 78 (dk_at dksX10_layState_1 0 rfl rfl)
theorem dX10_layState_27 : decode cX10_layState 27 = .ok (.iload_n 3, 1) := dk_29 (dk_at dksX10_layState_1 3 rfl rfl)
theorem dX10_layState_28 : decode cX10_layState 28 = .ok (.iload_n 2, 1) := dk_28 (dk_at dksX10_layState_1 4 rfl rfl)
theorem dX10_layState_29 : decode cX10_layState 29 = .ok (.iconst 3, 1) := dk_6 (dk_at dksX10_layState_1 5 rfl rfl)
theorem dX10_layState_30 : decode cX10_layState 30 = .ok (.irem, 1) := dk_112 (dk_at dksX10_layState_1 6 rfl rfl)
theorem dX10_layState_31 : decode cX10_layState 31 = .ok (.iastore, 1) := dk_79 (dk_at dksX10_layState_1 7 rfl rfl)
theorem dX10_layState_32 : decode cX10_layState 32 = .ok (.iload_n 2, 1) := dk_28 (dk_at dksX10_layState_1 8 rfl rfl)
theorem dX10_layState_33 : decode cX10_layState 33 = .ok (.iconst 3, 1) := dk_6 (dk_at dksX10_layState_1 9 rfl rfl)
theorem dX10_layState_34 : decode cX10_layState 34 = .ok (.idiv, 1) := dk_108 (dk_at dksX10_layState_1 10 rfl rfl)
theorem dX10_layState_35 : decode cX10_layState 35 = .ok (.istore_n 2, 1) := dk_61 (dk_at dksX10_layState_1 11 rfl rfl)
theorem dX10_layState_36 : decode cX10_layState 36 = .ok (.iinc 3 1, 3) := dk_132 3 1 (dk_at dksX10_layState_1 12 rfl rfl)
theorem dX10_layState_39 : decode cX10_layState 39 = .ok (.goto (-24), 3) := dk_167 255 232 (dk_at dksX10_layState_1 15 rfl rfl)
theorem dX10_layState_42 : decode cX10_layState 42 = .ok (.aload_n 0, 1) := dk_42 (dk_at dksX10_layState_1 18 rfl rfl)
theorem dX10_layState_43 : decode cX10_layState 43 = .ok (.invokevirtual 360, 3) := dk_182 1 104 (dk_at dksX10_layState_1 19 rfl rfl)
theorem dX10_layState_46 : decode cX10_layState 46 = .ok (.return_, 1) := dk_177 (dk_at dksX10_layState_1 22 rfl rfl)
theorem dn_X10_layState : yX10_layState.cls ≠ "java/lang/invoke/MethodHandle" ∧ yX10_layState.cls ≠ "java/lang/invoke/VarHandle" ∧ (parseMethodDescriptor yX10_layState.desc).map (fun d => d.parameters.length) = some 1 := by decide +kernel
noncomputable def M_X10_layState (p1 : Int32) : TM Unit := TM.bind (sI 45 (p1 - p1 / 100 * 100)) (fun _ => TM.lv (p1 / 100) (fun v1 => TM.bind (TM.loop (S := Int32 × Int32) (E := Unit) (fun s2 => TM.bind (M_X10_doors) (fun v6 => if v6 ≤ s2.2 then TM.pure (Sum.inr ()) else TM.bind (sA 43 10 s2.2 (s2.1 - s2.1 / 3 * 3)) (fun _ => TM.lv (s2.1 / 3) (fun v7 => TM.lv (s2.2 + 1) (fun v8 => TM.pure (Sum.inl (v7, v8))))))) (v1, 0)) (fun e5 => TM.bind (M_X10_layLeaves) (fun v9 => TM.pure ()))))
set_option maxHeartbeats 4000000 in
theorem ct_X10_layState (G : gG) (am : Nat) (p1 : Int32) : gCtM G am yX10_layState cX10_layState 4 none 3 77 [.ref am, .int p1] (M_X10_layState p1) (fun _ : Unit => none) := by
  refine gCtM.of (by decide) (Nat.le_of_ble_eq_true rfl) (fun K hn ms ms' r hG X hK hd ho => ?_)
  subst hG
  have X : gX K cX10_layState 4 "BitingDoorsModel" "layState" none 3 77 := X
  show V K 4 (mkM am hn ms) 0 [(0, .ref am), (1, .int p1)] []
  unfold M_X10_layState at hd
  refine v_aload_n X dX10_layState_0 0 0 rfl rfl ?_
  refine v_iload_n X dX10_layState_1 1 1 rfl rfl ?_
  refine v_bipush (v := 100) X dX10_layState_2 (by decide) ?_
  refine v_irem X dX10_layState_4 (by decide) ?_
  refine t_putI X hd rfl fp_X10_354 dX10_layState_5 (fun ms hd => ?_)
  refine v_iload_n X dX10_layState_8 1 1 rfl rfl ?_
  refine v_bipush (v := 100) X dX10_layState_9 (by decide) ?_
  refine v_idiv X dX10_layState_11 (by decide) ?_
  refine t_lvI hd (fun v1 hd => ?_)
  refine v_istore_n (lv2 := [(2, .int v1), (0, .ref am), (1, .int p1)]) X dX10_layState_12 2 rfl (by decide) rfl ?_
  refine v_iconst (v := 0) X dX10_layState_13 (by decide) ?_
  refine v_istore_n (lv2 := [(3, .int 0), (2, .int v1), (0, .ref am), (1, .int p1)]) X dX10_layState_14 3 rfl (by decide) rfl ?_
  obtain ⟨e5, m1, hd, hd2⟩ := TM.bind_some hd
  have KX : V K 4 (mkM am hn m1) 42 [(0, .ref am)] [] := by
    clear hd
    have hd := hd2
    refine v_aload_n X dX10_layState_42 0 0 rfl rfl ?_
    refine t_callV X hK hd (ct_X10_layLeaves _ am) (lw_V q2148 q2150 qs78 q120 q2151) ⟨rfl, dn_X10_layLeaves⟩ rfl ⟨by decide, by decide⟩ rfl (Nat.le_of_ble_eq_true rfl) dX10_layState_43 (fun v9 ms hd => ?_)
    show V K 4 (mkM am hn ms) 46 [(0, .ref am)] []
    exact t_vret X hK hd ho dX10_layState_46
  clear hd2
  refine v_loc [2, 1, 0] rfl ?_
  refine Tloop_ind hd (fun (s2 : Int32 × Int32) m => V K 4 (mkM am hn m) 15 [(0, .ref am), (2, .int s2.1), (3, .int s2.2)] []) (fun s2 ms x m2 hd ih3 ho4 => ?_)
  refine v_iload_n X dX10_layState_15 2 3 rfl rfl ?_
  refine v_aload_n X dX10_layState_16 0 0 rfl rfl ?_
  refine t_callV X hK hd (ct_X10_doors _ am) (lw_V q1986 q1988 qs57 q120 q1989) ⟨rfl, dn_X10_doors⟩ rfl ⟨by decide, by decide⟩ rfl (Nat.le_of_ble_eq_true rfl) dX10_layState_17 (fun v6 ms hd => ?_)
  show V K 4 (mkM am hn ms) 20 [(0, .ref am), (2, .int s2.1), (3, .int s2.2)] [.int v6, .int s2.2]
  refine v_icmp_ge (tgt := 42) X dX10_layState_20 (by decide) (fun q => ?_) (fun q => ?_)
  · have hd := Tite_t q hd
    exact v_loc [0] rfl (t_at (P := fun (e5 : Unit) m => V K 4 (mkM am hn m) 42 [(0, .ref am)] []) (Tlp_out hd ho4) KX)
  · have hd := Tite_f q hd
    refine v_aload_n X dX10_layState_23 0 0 rfl rfl ?_
    refine t_getA (j := 22) X rfl fl_X10_78 dX10_layState_24 ?_
    refine v_iload_n X dX10_layState_27 2 3 rfl rfl ?_
    refine v_iload_n X dX10_layState_28 1 2 rfl rfl ?_
    refine v_iconst (v := 3) X dX10_layState_29 (by decide) ?_
    refine v_irem X dX10_layState_30 (by decide) ?_
    refine t_iast (j := 22) X hd rfl dX10_layState_31 (fun ms hd => ?_)
    refine v_iload_n X dX10_layState_32 1 2 rfl rfl ?_
    refine v_iconst (v := 3) X dX10_layState_33 (by decide) ?_
    refine v_idiv X dX10_layState_34 (by decide) ?_
    refine t_lvI hd (fun v7 hd => ?_)
    refine v_istore_n (lv2 := [(2, .int v7), (0, .ref am), (3, .int s2.2)]) X dX10_layState_35 2 rfl (by decide) rfl ?_
    refine t_iincL (lv2 := fun v8 => [(3, .int v8), (2, .int v7), (0, .ref am)]) X hd dX10_layState_36 2 rfl (by decide : Int32.ofInt 1 = 1) (by decide) (fun v8 => rfl) (fun v8 hd => ?_)
    refine v_goto (tgt := 15) X dX10_layState_39 (by decide) ?_
    exact v_loc [2, 1, 0] rfl (Tlp_in (P := fun (s2 : Int32 × Int32) m => V K 4 (mkM am hn m) 15 [(0, .ref am), (2, .int s2.1), (3, .int s2.2)] []) hd ih3)
def dkwX10_stateAtHand_1 : List UInt8 := [132, 2, 255, 167, 255, 238, 16, 100, 27, 104, 42, 180, 1, 98, 96, 172]
abbrev dktX10_stateAtHand_1 : List UInt8 := dkwX10_stateAtHand_1 ++ []
def dkwX10_stateAtHand_0 : List UInt8 := [3, 60, 42, 182, 0, 211, 4, 100, 61, 28, 155, 0, 20, 6, 27, 104, 42, 180, 0, 78, 28, 46, 96, 60]
abbrev dktX10_stateAtHand_0 : List UInt8 := dkwX10_stateAtHand_0 ++ dktX10_stateAtHand_1
theorem dksX10_stateAtHand_0 : cX10_stateAtHand.data.toList.drop 0 = dktX10_stateAtHand_0 := by decide +kernel
theorem dksX10_stateAtHand_1 : cX10_stateAtHand.data.toList.drop 24 = dktX10_stateAtHand_1 := dk_seg dksX10_stateAtHand_0 24 rfl rfl
theorem dX10_stateAtHand_0 : decode cX10_stateAtHand 0 = .ok (.iconst 0, 1) := dk_3 (dk_at dksX10_stateAtHand_0 0 rfl rfl)
theorem dX10_stateAtHand_1 : decode cX10_stateAtHand 1 = .ok (.istore_n 1, 1) := dk_60 (dk_at dksX10_stateAtHand_0 1 rfl rfl)
theorem dX10_stateAtHand_2 : decode cX10_stateAtHand 2 = .ok (.aload_n 0, 1) := dk_42 (dk_at dksX10_stateAtHand_0 2 rfl rfl)
theorem dX10_stateAtHand_3 : decode cX10_stateAtHand 3 = .ok (.invokevirtual 211, 3) := dk_182 0 211 (dk_at dksX10_stateAtHand_0 3 rfl rfl)
theorem dX10_stateAtHand_6 : decode cX10_stateAtHand 6 = .ok (.iconst 1, 1) := dk_4 (dk_at dksX10_stateAtHand_0 6 rfl rfl)
theorem dX10_stateAtHand_7 : decode cX10_stateAtHand 7 = .ok (.isub, 1) := dk_100 (dk_at dksX10_stateAtHand_0 7 rfl rfl)
theorem dX10_stateAtHand_8 : decode cX10_stateAtHand 8 = .ok (.istore_n 2, 1) := dk_61 (dk_at dksX10_stateAtHand_0 8 rfl rfl)
theorem dX10_stateAtHand_9 : decode cX10_stateAtHand 9 = .ok (.iload_n 2, 1) := dk_28 (dk_at dksX10_stateAtHand_0 9 rfl rfl)
theorem dX10_stateAtHand_10 : decode cX10_stateAtHand 10 = .ok (.ifCond .lt 20, 3) := dk_155 0 20 (dk_at dksX10_stateAtHand_0 10 rfl rfl)
theorem dX10_stateAtHand_13 : decode cX10_stateAtHand 13 = .ok (.iconst 3, 1) := dk_6 (dk_at dksX10_stateAtHand_0 13 rfl rfl)
theorem dX10_stateAtHand_14 : decode cX10_stateAtHand 14 = .ok (.iload_n 1, 1) := dk_27 (dk_at dksX10_stateAtHand_0 14 rfl rfl)
theorem dX10_stateAtHand_15 : decode cX10_stateAtHand 15 = .ok (.imul, 1) := dk_104 (dk_at dksX10_stateAtHand_0 15 rfl rfl)
theorem dX10_stateAtHand_16 : decode cX10_stateAtHand 16 = .ok (.aload_n 0, 1) := dk_42 (dk_at dksX10_stateAtHand_0 16 rfl rfl)
theorem dX10_stateAtHand_17 : decode cX10_stateAtHand 17 = .ok (.getfield 78, 3) := dk_180 0 78 (dk_at dksX10_stateAtHand_0 17 rfl rfl)
theorem dX10_stateAtHand_20 : decode cX10_stateAtHand 20 = .ok (.iload_n 2, 1) := dk_28 (dk_at dksX10_stateAtHand_0 20 rfl rfl)
theorem dX10_stateAtHand_21 : decode cX10_stateAtHand 21 = .ok (.iaload, 1) := dk_46 (dk_at dksX10_stateAtHand_0 21 rfl rfl)
theorem dX10_stateAtHand_22 : decode cX10_stateAtHand 22 = .ok (.iadd, 1) := dk_96 (dk_at dksX10_stateAtHand_0 22 rfl rfl)
theorem dX10_stateAtHand_23 : decode cX10_stateAtHand 23 = .ok (.istore_n 1, 1) := dk_60 (dk_at dksX10_stateAtHand_0 23 rfl rfl)
theorem dX10_stateAtHand_24 : decode cX10_stateAtHand 24 = .ok (.iinc 2 (-1), 3) := dk_132 2 255 (dk_at dksX10_stateAtHand_1 0 rfl rfl)
theorem dX10_stateAtHand_27 : decode cX10_stateAtHand 27 = .ok (.goto (-18), 3) := dk_167 255 238 (dk_at dksX10_stateAtHand_1 3 rfl rfl)
theorem dX10_stateAtHand_30 : decode cX10_stateAtHand 30 = .ok (.bipush 100, 2) := dk_16 100 (dk_at dksX10_stateAtHand_1 6 rfl rfl)
theorem dX10_stateAtHand_32 : decode cX10_stateAtHand 32 = .ok (.iload_n 1, 1) := dk_27 (dk_at dksX10_stateAtHand_1 8 rfl rfl)
theorem dX10_stateAtHand_33 : decode cX10_stateAtHand 33 = .ok (.imul, 1) := dk_104 (dk_at dksX10_stateAtHand_1 9 rfl rfl)
theorem dX10_stateAtHand_34 : decode cX10_stateAtHand 34 = .ok (.aload_n 0, 1) := dk_42 (dk_at dksX10_stateAtHand_1 10 rfl rfl)
theorem dX10_stateAtHand_35 : decode cX10_stateAtHand 35 = .ok (.getfield 354, 3) := dk_180 1 98 (dk_at dksX10_stateAtHand_1 11 rfl rfl)
theorem dX10_stateAtHand_38 : decode cX10_stateAtHand 38 = .ok (.iadd, 1) := dk_96 (dk_at dksX10_stateAtHand_1 14 rfl rfl)
theorem dX10_stateAtHand_39 : decode cX10_stateAtHand 39 = .ok (.ireturn, 1) := dk_172 (dk_at dksX10_stateAtHand_1 15 rfl rfl)
theorem dn_X10_stateAtHand : yX10_stateAtHand.cls ≠ "java/lang/invoke/MethodHandle" ∧ yX10_stateAtHand.cls ≠ "java/lang/invoke/VarHandle" ∧ (parseMethodDescriptor yX10_stateAtHand.desc).map (fun d => d.parameters.length) = some 0 := by decide +kernel
noncomputable def M_X10_stateAtHand  : TM Int32 := TM.bind (M_X10_doors) (fun v1 => TM.lv (v1 - 1) (fun v2 => TM.bind (TM.loop (S := Int32 × Int32) (E := Int32) (fun s3 => if s3.2 < 0 then TM.pure (Sum.inr s3.1) else TM.bind (tA 43 10 s3.2) (fun v7 => TM.lv ((3 * s3.1) + v7) (fun v8 => TM.lv (s3.2 + (-1)) (fun v9 => TM.pure (Sum.inl (v8, v9)))))) (0, v2)) (fun e6 => TM.bind (tI 45) (fun v10 => TM.pure ((100 * e6) + v10)))))
set_option maxHeartbeats 4000000 in
theorem ct_X10_stateAtHand (G : gG) (am : Nat)  : gCtM G am yX10_stateAtHand cX10_stateAtHand 3 (some .int) 1 20 [.ref am] (M_X10_stateAtHand) (fun x : Int32 => some (.int x)) := by
  refine gCtM.of (by decide) (Nat.le_of_ble_eq_true rfl) (fun K hn ms ms' r hG X hK hd ho => ?_)
  subst hG
  have X : gX K cX10_stateAtHand 3 "BitingDoorsModel" "stateAtHand" (some .int) 1 20 := X
  show V K 3 (mkM am hn ms) 0 [(0, .ref am)] []
  unfold M_X10_stateAtHand at hd
  refine v_iconst (v := 0) X dX10_stateAtHand_0 (by decide) ?_
  refine v_istore_n (lv2 := [(1, .int 0), (0, .ref am)]) X dX10_stateAtHand_1 1 rfl (by decide) rfl ?_
  refine v_aload_n X dX10_stateAtHand_2 1 0 rfl rfl ?_
  refine t_callV X hK hd (ct_X10_doors _ am) (lw_V q1986 q1988 qs57 q120 q1989) ⟨rfl, dn_X10_doors⟩ rfl ⟨by decide, by decide⟩ rfl (Nat.le_of_ble_eq_true rfl) dX10_stateAtHand_3 (fun v1 ms hd => ?_)
  show V K 3 (mkM am hn ms) 6 [(1, .int 0), (0, .ref am)] [.int v1]
  refine v_iconst (v := 1) X dX10_stateAtHand_6 (by decide) ?_
  refine v_isub X dX10_stateAtHand_7 ?_
  refine t_lvI hd (fun v2 hd => ?_)
  refine v_istore_n (lv2 := [(2, .int v2), (1, .int 0), (0, .ref am)]) X dX10_stateAtHand_8 2 rfl (by decide) rfl ?_
  obtain ⟨e6, m1, hd, hd2⟩ := TM.bind_some hd
  have KX : V K 3 (mkM am hn m1) 30 [(0, .ref am), (1, .int e6)] [] := by
    clear hd
    have hd := hd2
    refine v_bipush (v := 100) X dX10_stateAtHand_30 (by decide) ?_
    refine v_iload_n X dX10_stateAtHand_32 1 1 rfl rfl ?_
    refine v_imul X dX10_stateAtHand_33 ?_
    refine v_aload_n X dX10_stateAtHand_34 0 0 rfl rfl ?_
    refine t_getI X hd rfl fl_X10_354 dX10_stateAtHand_35 (fun v10 hd => ?_)
    refine v_iadd X dX10_stateAtHand_38 ?_
    exact t_iret X hK hd ho dX10_stateAtHand_39
  clear hd2
  refine v_loc [2, 1, 0] rfl ?_
  refine Tloop_ind hd (fun (s3 : Int32 × Int32) m => V K 3 (mkM am hn m) 9 [(0, .ref am), (1, .int s3.1), (2, .int s3.2)] []) (fun s3 ms x m2 hd ih4 ho5 => ?_)
  refine v_iload_n X dX10_stateAtHand_9 2 2 rfl rfl ?_
  refine v_if_lt (tgt := 30) X dX10_stateAtHand_10 (by decide) (fun q => ?_) (fun q => ?_)
  · have hd := Tite_t q hd
    exact v_loc [0, 1] rfl (t_at (P := fun (e6 : Int32) m => V K 3 (mkM am hn m) 30 [(0, .ref am), (1, .int e6)] []) (Tlp_out hd ho5) KX)
  · have hd := Tite_f q hd
    refine v_iconst (v := 3) X dX10_stateAtHand_13 (by decide) ?_
    refine v_iload_n X dX10_stateAtHand_14 1 1 rfl rfl ?_
    refine v_imul X dX10_stateAtHand_15 ?_
    refine v_aload_n X dX10_stateAtHand_16 0 0 rfl rfl ?_
    refine t_getA (j := 22) X rfl fl_X10_78 dX10_stateAtHand_17 ?_
    refine v_iload_n X dX10_stateAtHand_20 2 2 rfl rfl ?_
    refine t_iald (j := 22) X hd rfl dX10_stateAtHand_21 (fun v7 hd => ?_)
    refine v_iadd X dX10_stateAtHand_22 ?_
    refine t_lvI hd (fun v8 hd => ?_)
    refine v_istore_n (lv2 := [(1, .int v8), (0, .ref am), (2, .int s3.2)]) X dX10_stateAtHand_23 1 rfl (by decide) rfl ?_
    refine t_iincL (lv2 := fun v9 => [(2, .int v9), (1, .int v8), (0, .ref am)]) X hd dX10_stateAtHand_24 2 rfl (by decide : Int32.ofInt (-1) = (-1)) (by decide) (fun v9 => rfl) (fun v9 hd => ?_)
    refine v_goto (tgt := 9) X dX10_stateAtHand_27 (by decide) ?_
    exact v_loc [2, 1, 0] rfl (Tlp_in (P := fun (s3 : Int32 × Int32) m => V K 3 (mkM am hn m) 9 [(0, .ref am), (1, .int s3.1), (2, .int s3.2)] []) hd ih4)
def dkwX10_search_7 : List UInt8 := [4, 96, 181, 1, 158, 132, 5, 1, 167, 255, 162, 132, 3, 1, 167, 255, 125, 2, 172]
abbrev dktX10_search_7 : List UInt8 := dkwX10_search_7 ++ []
def dkwX10_search_6 : List UInt8 := [180, 0, 90, 21, 6, 21, 4, 79, 42, 180, 0, 87, 42, 180, 1, 158, 21, 6, 79, 42, 89, 180, 1, 158]
abbrev dktX10_search_6 : List UInt8 := dkwX10_search_6 ++ dktX10_search_7
def dkwX10_search_5 : List UInt8 := [180, 0, 93, 21, 6, 46, 16, 251, 159, 0, 6, 167, 0, 42, 42, 180, 0, 93, 21, 6, 21, 5, 79, 42]
abbrev dktX10_search_5 : List UInt8 := dkwX10_search_5 ++ dktX10_search_6
def dkwX10_search_4 : List UInt8 := [21, 4, 182, 1, 161, 42, 21, 5, 182, 1, 131, 153, 0, 6, 167, 0, 63, 42, 182, 1, 155, 54, 6, 42]
abbrev dktX10_search_4 : List UInt8 := dkwX10_search_4 ++ dktX10_search_5
def dkwX10_search_3 : List UInt8 := [160, 0, 6, 21, 4, 172, 3, 54, 5, 21, 5, 7, 5, 42, 182, 0, 211, 104, 96, 162, 0, 87, 42]
abbrev dktX10_search_3 : List UInt8 := dkwX10_search_3 ++ dktX10_search_4
def dkwX10_search_2 : List UInt8 := [3, 62, 29, 42, 180, 1, 158, 162, 0, 129, 42, 180, 0, 87, 29, 46, 54, 4, 21, 4, 16, 100, 112, 27]
abbrev dktX10_search_2 : List UInt8 := dkwX10_search_2 ++ dktX10_search_3
def dkwX10_search_1 : List UInt8 := [182, 1, 155, 61, 42, 180, 0, 87, 3, 28, 79, 42, 4, 181, 1, 158, 42, 180, 0, 93, 28, 16, 252, 79]
abbrev dktX10_search_1 : List UInt8 := dkwX10_search_1 ++ dktX10_search_2
def dkwX10_search_0 : List UInt8 := [3, 61, 28, 17, 94, 236, 162, 0, 17, 42, 180, 0, 93, 28, 16, 251, 79, 132, 2, 1, 167, 255, 238, 42]
abbrev dktX10_search_0 : List UInt8 := dkwX10_search_0 ++ dktX10_search_1
theorem dksX10_search_0 : cX10_search.data.toList.drop 0 = dktX10_search_0 := by decide +kernel
theorem dksX10_search_1 : cX10_search.data.toList.drop 24 = dktX10_search_1 := dk_seg dksX10_search_0 24 rfl rfl
theorem dksX10_search_2 : cX10_search.data.toList.drop 48 = dktX10_search_2 := dk_seg dksX10_search_1 24 rfl rfl
theorem dksX10_search_3 : cX10_search.data.toList.drop 72 = dktX10_search_3 := dk_seg dksX10_search_2 24 rfl rfl
theorem dksX10_search_4 : cX10_search.data.toList.drop 95 = dktX10_search_4 := dk_seg dksX10_search_3 23 rfl rfl
theorem dksX10_search_5 : cX10_search.data.toList.drop 119 = dktX10_search_5 := dk_seg dksX10_search_4 24 rfl rfl
theorem dksX10_search_6 : cX10_search.data.toList.drop 143 = dktX10_search_6 := dk_seg dksX10_search_5 24 rfl rfl
theorem dksX10_search_7 : cX10_search.data.toList.drop 167 = dktX10_search_7 := dk_seg dksX10_search_6 24 rfl rfl
theorem dX10_search_0 : decode cX10_search 0 = .ok (.iconst 0, 1) := dk_3 (dk_at dksX10_search_0 0 rfl rfl)
theorem dX10_search_1 : decode cX10_search 1 = .ok (.istore_n 2, 1) := dk_61 (dk_at dksX10_search_0 1 rfl rfl)
theorem dX10_search_2 : decode cX10_search 2 = .ok (.iload_n 2, 1) := dk_28 (dk_at dksX10_search_0 2 rfl rfl)
theorem dX10_search_3 : decode cX10_search 3 = .ok (.sipush 24300, 3) := dk_17 94 236 (dk_at dksX10_search_0 3 rfl rfl)
theorem dX10_search_6 : decode cX10_search 6 = .ok (.if_icmp .ge 17, 3) := dk_162 0 17 (dk_at dksX10_search_0 6 rfl rfl)
theorem dX10_search_9 : decode cX10_search 9 = .ok (.aload_n 0, 1) := dk_42 (dk_at dksX10_search_0 9 rfl rfl)
theorem dX10_search_10 : decode cX10_search 10 = .ok (.getfield 93, 3) := dk_180 0 93 (dk_at dksX10_search_0 10 rfl rfl)
theorem dX10_search_13 : decode cX10_search 13 = .ok (.iload_n 2, 1) := dk_28 (dk_at dksX10_search_0 13 rfl rfl)
theorem dX10_search_14 : decode cX10_search 14 = .ok (.bipush (-5), 2) := dk_16 251 (dk_at dksX10_search_0 14 rfl rfl)
theorem dX10_search_16 : decode cX10_search 16 = .ok (.iastore, 1) := dk_79 (dk_at dksX10_search_0 16 rfl rfl)
theorem dX10_search_17 : decode cX10_search 17 = .ok (.iinc 2 1, 3) := dk_132 2 1 (dk_at dksX10_search_0 17 rfl rfl)
theorem dX10_search_20 : decode cX10_search 20 = .ok (.goto (-18), 3) := dk_167 255 238 (dk_at dksX10_search_0 20 rfl rfl)
theorem dX10_search_23 : decode cX10_search 23 = .ok (.aload_n 0, 1) := dk_42 (dk_at dksX10_search_0 23 rfl rfl)
theorem dX10_search_24 : decode cX10_search 24 = .ok (.invokevirtual 411, 3) := dk_182 1 155 (dk_at dksX10_search_1 0 rfl rfl)
theorem dX10_search_27 : decode cX10_search 27 = .ok (.istore_n 2, 1) := dk_61 (dk_at dksX10_search_1 3 rfl rfl)
theorem dX10_search_28 : decode cX10_search 28 = .ok (.aload_n 0, 1) := dk_42 (dk_at dksX10_search_1 4 rfl rfl)
theorem dX10_search_29 : decode cX10_search 29 = .ok (.getfield 87, 3) := dk_180 0 87 (dk_at dksX10_search_1 5 rfl rfl)
theorem dX10_search_32 : decode cX10_search 32 = .ok (.iconst 0, 1) := dk_3 (dk_at dksX10_search_1 8 rfl rfl)
theorem dX10_search_33 : decode cX10_search 33 = .ok (.iload_n 2, 1) := dk_28 (dk_at dksX10_search_1 9 rfl rfl)
theorem dX10_search_34 : decode cX10_search 34 = .ok (.iastore, 1) := dk_79 (dk_at dksX10_search_1 10 rfl rfl)
theorem dX10_search_35 : decode cX10_search 35 = .ok (.aload_n 0, 1) := dk_42 (dk_at dksX10_search_1 11 rfl rfl)
theorem dX10_search_36 : decode cX10_search 36 = .ok (.iconst 1, 1) := dk_4 (dk_at dksX10_search_1 12 rfl rfl)
theorem dX10_search_37 : decode cX10_search 37 = .ok (.putfield 414, 3) := dk_181 1 158 (dk_at dksX10_search_1 13 rfl rfl)
theorem dX10_search_40 : decode cX10_search 40 = .ok (.aload_n 0, 1) := dk_42 (dk_at dksX10_search_1 16 rfl rfl)
theorem dX10_search_41 : decode cX10_search 41 = .ok (.getfield 93, 3) := dk_180 0 93 (dk_at dksX10_search_1 17 rfl rfl)
theorem dX10_search_44 : decode cX10_search 44 = .ok (.iload_n 2, 1) := dk_28 (dk_at dksX10_search_1 20 rfl rfl)
theorem dX10_search_45 : decode cX10_search 45 = .ok (.bipush (-4), 2) := dk_16 252 (dk_at dksX10_search_1 21 rfl rfl)
theorem dX10_search_47 : decode cX10_search 47 = .ok (.iastore, 1) := dk_79 (dk_at dksX10_search_1 23 rfl rfl)
theorem dX10_search_48 : decode cX10_search 48 = .ok (.iconst 0, 1) := dk_3 (dk_at dksX10_search_2 0 rfl rfl)
theorem dX10_search_49 : decode cX10_search 49 = .ok (.istore_n 3, 1) := dk_62 (dk_at dksX10_search_2 1 rfl rfl)
theorem dX10_search_50 : decode cX10_search 50 = .ok (.iload_n 3, 1) := dk_29 (dk_at dksX10_search_2 2 rfl rfl)
theorem dX10_search_51 : decode cX10_search 51 = .ok (.aload_n 0, 1) := dk_42 (dk_at dksX10_search_2 3 rfl rfl)
theorem dX10_search_52 : decode cX10_search 52 = .ok (.getfield 414, 3) := dk_180 1 158 (dk_at dksX10_search_2 4 rfl rfl)
theorem dX10_search_55 : decode cX10_search 55 = .ok (.if_icmp .ge 129, 3) := dk_162 0 129 (dk_at dksX10_search_2 7 rfl rfl)
theorem dX10_search_58 : decode cX10_search 58 = .ok (.aload_n 0, 1) := dk_42 (dk_at dksX10_search_2 10 rfl rfl)
theorem dX10_search_59 : decode cX10_search 59 = .ok (.getfield 87, 3) := dk_180 0 87 (dk_at dksX10_search_2 11 rfl rfl)
theorem dX10_search_62 : decode cX10_search 62 = .ok (.iload_n 3, 1) := dk_29 (dk_at dksX10_search_2 14 rfl rfl)
theorem dX10_search_63 : decode cX10_search 63 = .ok (.iaload, 1) := dk_46 (dk_at dksX10_search_2 15 rfl rfl)
theorem dX10_search_64 : decode cX10_search 64 = .ok (.istore 4, 2) := dk_54 4 (dk_at dksX10_search_2 16 rfl rfl)
theorem dX10_search_66 : decode cX10_search 66 = .ok (.iload 4, 2) := dk_21 4 (dk_at dksX10_search_2 18 rfl rfl)
theorem dX10_search_68 : decode cX10_search 68 = .ok (.bipush 100, 2) := dk_16 100 (dk_at dksX10_search_2 20 rfl rfl)
theorem dX10_search_70 : decode cX10_search 70 = .ok (.irem, 1) := dk_112 (dk_at dksX10_search_2 22 rfl rfl)
theorem dX10_search_71 : decode cX10_search 71 = .ok (.iload_n 1, 1) := dk_27 (dk_at dksX10_search_2 23 rfl rfl)
theorem dX10_search_72 : decode cX10_search 72 = .ok (.if_icmp .ne 6, 3) := dk_160 0 6 (dk_at dksX10_search_3 0 rfl rfl)
theorem dX10_search_75 : decode cX10_search 75 = .ok (.iload 4, 2) := dk_21 4 (dk_at dksX10_search_3 3 rfl rfl)
theorem dX10_search_77 : decode cX10_search 77 = .ok (.ireturn, 1) := dk_172 (dk_at dksX10_search_3 5 rfl rfl)
theorem dX10_search_78 : decode cX10_search 78 = .ok (.iconst 0, 1) := dk_3 (dk_at dksX10_search_3 6 rfl rfl)
theorem dX10_search_79 : decode cX10_search 79 = .ok (.istore 5, 2) := dk_54 5 (dk_at dksX10_search_3 7 rfl rfl)
theorem dX10_search_81 : decode cX10_search 81 = .ok (.iload 5, 2) := dk_21 5 (dk_at dksX10_search_3 9 rfl rfl)
theorem dX10_search_83 : decode cX10_search 83 = .ok (.iconst 4, 1) := dk_7 (dk_at dksX10_search_3 11 rfl rfl)
theorem dX10_search_84 : decode cX10_search 84 = .ok (.iconst 2, 1) := dk_5 (dk_at dksX10_search_3 12 rfl rfl)
theorem dX10_search_85 : decode cX10_search 85 = .ok (.aload_n 0, 1) := dk_42 (dk_at dksX10_search_3 13 rfl rfl)
theorem dX10_search_86 : decode cX10_search 86 = .ok (.invokevirtual 211, 3) := dk_182 0 211 (dk_at dksX10_search_3 14 rfl rfl)
theorem dX10_search_89 : decode cX10_search 89 = .ok (.imul, 1) := dk_104 (dk_at dksX10_search_3 17 rfl rfl)
theorem dX10_search_90 : decode cX10_search 90 = .ok (.iadd, 1) := dk_96 (dk_at dksX10_search_3 18 rfl rfl)
theorem dX10_search_91 : decode cX10_search 91 = .ok (.if_icmp .ge 87, 3) := dk_162 0 87 (dk_at dksX10_search_3 19 rfl rfl)
theorem dX10_search_94 : decode cX10_search 94 = .ok (.aload_n 0, 1) := dk_42 (dk_at dksX10_search_3 22 rfl rfl)
theorem dX10_search_95 : decode cX10_search 95 = .ok (.iload 4, 2) := dk_21 4 (dk_at dksX10_search_4 0 rfl rfl)
theorem dX10_search_97 : decode cX10_search 97 = .ok (.invokevirtual 417, 3) := dk_182 1 161 (dk_at dksX10_search_4 2 rfl rfl)
theorem dX10_search_100 : decode cX10_search 100 = .ok (.aload_n 0, 1) := dk_42 (dk_at dksX10_search_4 5 rfl rfl)
theorem dX10_search_101 : decode cX10_search 101 = .ok (.iload 5, 2) := dk_21 5 (dk_at dksX10_search_4 6 rfl rfl)
theorem dX10_search_103 : decode cX10_search 103 = .ok (.invokevirtual 387, 3) := dk_182 1 131 (dk_at dksX10_search_4 8 rfl rfl)
theorem dX10_search_106 : decode cX10_search 106 = .ok (.ifCond .eq 6, 3) := dk_153 0 6 (dk_at dksX10_search_4 11 rfl rfl)
theorem dX10_search_109 : decode cX10_search 109 = .ok (.goto 63, 3) := dk_167 0 63 (dk_at dksX10_search_4 14 rfl rfl)
theorem dX10_search_112 : decode cX10_search 112 = .ok (.aload_n 0, 1) := dk_42 (dk_at dksX10_search_4 17 rfl rfl)
theorem dX10_search_113 : decode cX10_search 113 = .ok (.invokevirtual 411, 3) := dk_182 1 155 (dk_at dksX10_search_4 18 rfl rfl)
theorem dX10_search_116 : decode cX10_search 116 = .ok (.istore 6, 2) := dk_54 6 (dk_at dksX10_search_4 21 rfl rfl)
theorem dX10_search_118 : decode cX10_search 118 = .ok (.aload_n 0, 1) := dk_42 (dk_at dksX10_search_4 23 rfl rfl)
theorem dX10_search_119 : decode cX10_search 119 = .ok (.getfield 93, 3) := dk_180 0 93 (dk_at dksX10_search_5 0 rfl rfl)
theorem dX10_search_122 : decode cX10_search 122 = .ok (.iload 6, 2) := dk_21 6 (dk_at dksX10_search_5 3 rfl rfl)
theorem dX10_search_124 : decode cX10_search 124 = .ok (.iaload, 1) := dk_46 (dk_at dksX10_search_5 5 rfl rfl)
theorem dX10_search_125 : decode cX10_search 125 = .ok (.bipush (-5), 2) := dk_16 251 (dk_at dksX10_search_5 6 rfl rfl)
theorem dX10_search_127 : decode cX10_search 127 = .ok (.if_icmp .eq 6, 3) := dk_159 0 6 (dk_at dksX10_search_5 8 rfl rfl)
theorem dX10_search_130 : decode cX10_search 130 = .ok (.goto 42, 3) := dk_167 0 42 (dk_at dksX10_search_5 11 rfl rfl)
theorem dX10_search_133 : decode cX10_search 133 = .ok (.aload_n 0, 1) := dk_42 (dk_at dksX10_search_5 14 rfl rfl)
theorem dX10_search_134 : decode cX10_search 134 = .ok (.getfield 93, 3) := dk_180 0 93 (dk_at dksX10_search_5 15 rfl rfl)
theorem dX10_search_137 : decode cX10_search 137 = .ok (.iload 6, 2) := dk_21 6 (dk_at dksX10_search_5 18 rfl rfl)
theorem dX10_search_139 : decode cX10_search 139 = .ok (.iload 5, 2) := dk_21 5 (dk_at dksX10_search_5 20 rfl rfl)
theorem dX10_search_141 : decode cX10_search 141 = .ok (.iastore, 1) := dk_79 (dk_at dksX10_search_5 22 rfl rfl)
theorem dX10_search_142 : decode cX10_search 142 = .ok (.aload_n 0, 1) := dk_42 (dk_at dksX10_search_5 23 rfl rfl)
theorem dX10_search_143 : decode cX10_search 143 = .ok (.getfield 90, 3) := dk_180 0 90 (dk_at dksX10_search_6 0 rfl rfl)
theorem dX10_search_146 : decode cX10_search 146 = .ok (.iload 6, 2) := dk_21 6 (dk_at dksX10_search_6 3 rfl rfl)
theorem dX10_search_148 : decode cX10_search 148 = .ok (.iload 4, 2) := dk_21 4 (dk_at dksX10_search_6 5 rfl rfl)
theorem dX10_search_150 : decode cX10_search 150 = .ok (.iastore, 1) := dk_79 (dk_at dksX10_search_6 7 rfl rfl)
theorem dX10_search_151 : decode cX10_search 151 = .ok (.aload_n 0, 1) := dk_42 (dk_at dksX10_search_6 8 rfl rfl)
theorem dX10_search_152 : decode cX10_search 152 = .ok (.getfield 87, 3) := dk_180 0 87 (dk_at dksX10_search_6 9 rfl rfl)
theorem dX10_search_155 : decode cX10_search 155 = .ok (.aload_n 0, 1) := dk_42 (dk_at dksX10_search_6 12 rfl rfl)
theorem dX10_search_156 : decode cX10_search 156 = .ok (.getfield 414, 3) := dk_180 1 158 (dk_at dksX10_search_6 13 rfl rfl)
theorem dX10_search_159 : decode cX10_search 159 = .ok (.iload 6, 2) := dk_21 6 (dk_at dksX10_search_6 16 rfl rfl)
theorem dX10_search_161 : decode cX10_search 161 = .ok (.iastore, 1) := dk_79 (dk_at dksX10_search_6 18 rfl rfl)
theorem dX10_search_162 : decode cX10_search 162 = .ok (.aload_n 0, 1) := dk_42 (dk_at dksX10_search_6 19 rfl rfl)
theorem dX10_search_163 : decode cX10_search 163 = .ok (.dup, 1) := dk_89 (dk_at dksX10_search_6 20 rfl rfl)
theorem dX10_search_164 : decode cX10_search 164 = .ok (.getfield 414, 3) := dk_180 1 158 (dk_at dksX10_search_6 21 rfl rfl)
theorem dX10_search_167 : decode cX10_search 167 = .ok (.iconst 1, 1) := dk_4 (dk_at dksX10_search_7 0 rfl rfl)
theorem dX10_search_168 : decode cX10_search 168 = .ok (.iadd, 1) := dk_96 (dk_at dksX10_search_7 1 rfl rfl)
theorem dX10_search_169 : decode cX10_search 169 = .ok (.putfield 414, 3) := dk_181 1 158 (dk_at dksX10_search_7 2 rfl rfl)
theorem dX10_search_172 : decode cX10_search 172 = .ok (.iinc 5 1, 3) := dk_132 5 1 (dk_at dksX10_search_7 5 rfl rfl)
theorem dX10_search_175 : decode cX10_search 175 = .ok (.goto (-94), 3) := dk_167 255 162 (dk_at dksX10_search_7 8 rfl rfl)
theorem dX10_search_178 : decode cX10_search 178 = .ok (.iinc 3 1, 3) := dk_132 3 1 (dk_at dksX10_search_7 11 rfl rfl)
theorem dX10_search_181 : decode cX10_search 181 = .ok (.goto (-131), 3) := dk_167 255 125 (dk_at dksX10_search_7 14 rfl rfl)
theorem dX10_search_184 : decode cX10_search 184 = .ok (.iconst (-1), 1) := dk_2 (dk_at dksX10_search_7 17 rfl rfl)
theorem dX10_search_185 : decode cX10_search 185 = .ok (.ireturn, 1) := dk_172 (dk_at dksX10_search_7 18 rfl rfl)
theorem fl_X10_414 : gFl "BitingDoorsModel" 414 [8] 55 := by
  intro args s hts hN ci hc
  simp only [List.mem_cons, List.not_mem_nil, or_false] at hc
  subst hc
  exact ⟨RX10, TX10, 64, "BitingDoorsModel", gCl_X10, in_X10, by decide, Or.inl (hts _ q1705), fun _ h => h⟩
theorem fl_X10_87 : gFl "BitingDoorsModel" 87 [8] 50 := by
  intro args s hts hN ci hc
  simp only [List.mem_cons, List.not_mem_nil, or_false] at hc
  subst hc
  exact ⟨RX10, TX10, 64, "BitingDoorsModel", gCl_X10, in_X10, by decide, Or.inl (hts _ q1700), fun _ h => h⟩
theorem fl_X10_90 : gFl "BitingDoorsModel" 90 [8] 51 := by
  intro args s hts hN ci hc
  simp only [List.mem_cons, List.not_mem_nil, or_false] at hc
  subst hc
  exact ⟨RX10, TX10, 64, "BitingDoorsModel", gCl_X10, in_X10, by decide, Or.inl (hts _ q1701), fun _ h => h⟩
theorem fl_X10_93 : gFl "BitingDoorsModel" 93 [8] 52 := by
  intro args s hts hN ci hc
  simp only [List.mem_cons, List.not_mem_nil, or_false] at hc
  subst hc
  exact ⟨RX10, TX10, 64, "BitingDoorsModel", gCl_X10, in_X10, by decide, Or.inl (hts _ q1702), fun _ h => h⟩
theorem fp_X10_414 {nm : String} : gFp "BitingDoorsModel" nm 414 [8] 55 .int := by
  intro args s hts hN ci hc
  simp only [List.mem_cons, List.not_mem_nil, or_false] at hc
  subst hc
  exact ⟨RX10, TX10, 64, "BitingDoorsModel", gCl_X10, in_X10, by decide, Or.inl ⟨rfl, Or.inl (hts _ q1705)⟩, fun _ h => h, rfl, fun D tys hK => gap_X10 hts hK⟩
theorem dn_X10_search : yX10_search.cls ≠ "java/lang/invoke/MethodHandle" ∧ yX10_search.cls ≠ "java/lang/invoke/VarHandle" ∧ (parseMethodDescriptor yX10_search.desc).map (fun d => d.parameters.length) = some 1 := by decide +kernel
noncomputable def M_X10_search (p1 : Int32) : TM Int32 := TM.bind (TM.loop (S := Int32) (E := Unit) (fun s1 => if 24300 ≤ s1 then TM.pure (Sum.inr ()) else TM.bind (sA 52 24300 s1 (-5)) (fun _ => TM.lv (s1 + 1) (fun v5 => TM.pure (Sum.inl v5)))) 0) (fun e4 => TM.bind (M_X10_stateAtHand) (fun v6 => TM.bind (sA 50 24300 0 v6) (fun _ => TM.bind (sI 55 1) (fun _ => TM.bind (sA 52 24300 v6 (-4)) (fun _ => TM.loop (S := Int32) (fun s7 => TM.bind (tI 55) (fun v10 => if v10 ≤ s7 then TM.pure (Sum.inr (-1)) else TM.bind (tA 50 24300 s7) (fun v11 => if (v11 - v11 / 100 * 100) = p1 then TM.pure (Sum.inr v11) else TM.bind (TM.loop (S := Int32) (E := Unit) (fun s12 => TM.bind (M_X10_doors) (fun v16 => if (4 + (2 * v16)) ≤ s12 then TM.pure (Sum.inr ()) else TM.bind (M_X10_layState v11) (fun v17 => TM.bind (M_X10_minute s12) (fun v18 => TM.bind ((if v18 = 0 then TM.bind (M_X10_stateAtHand) (fun v21 => TM.bind (tA 52 24300 v21) (fun v22 => if v22 = (-5) then TM.bind (sA 52 24300 v21 s12) (fun _ => TM.bind (sA 51 24300 v21 v11) (fun _ => TM.bind (tI 55) (fun v23 => TM.bind (sA 50 24300 v23 v21) (fun _ => TM.bind (tI 55) (fun v24 => TM.bind (sI 55 (v24 + 1)) (fun _ => TM.pure ())))))) else TM.pure ())) else TM.pure () : TM (Unit))) (fun u19 => TM.lv (s12 + 1) (fun v20 => TM.pure (Sum.inl v20))))))) 0) (fun e15 => TM.lv (s7 + 1) (fun v25 => TM.pure (Sum.inl v25)))))) 0)))))
set_option maxHeartbeats 4000000 in
theorem ct_X10_search (G : gG) (am : Nat) (p1 : Int32) : gCtM G am yX10_search cX10_search 7 (some .int) 6 150 [.ref am, .int p1] (M_X10_search p1) (fun x : Int32 => some (.int x)) := by
  refine gCtM.of (by decide) (Nat.le_of_ble_eq_true rfl) (fun K hn ms ms' r hG X hK hd ho => ?_)
  subst hG
  have X : gX K cX10_search 7 "BitingDoorsModel" "search" (some .int) 6 150 := X
  show V K 7 (mkM am hn ms) 0 [(0, .ref am), (1, .int p1)] []
  unfold M_X10_search at hd
  refine v_iconst (v := 0) X dX10_search_0 (by decide) ?_
  refine v_istore_n (lv2 := [(2, .int 0), (0, .ref am), (1, .int p1)]) X dX10_search_1 2 rfl (by decide) rfl ?_
  obtain ⟨e4, m1, hd, hd2⟩ := TM.bind_some hd
  have KX : V K 7 (mkM am hn m1) 23 [(0, .ref am), (1, .int p1)] [] := by
    clear hd
    have hd := hd2
    refine v_aload_n X dX10_search_23 0 0 rfl rfl ?_
    refine t_callV X hK hd (ct_X10_stateAtHand _ am) (lw_V q2244 q2246 qs94 q120 q2247) ⟨rfl, dn_X10_stateAtHand⟩ rfl ⟨by decide, by decide⟩ rfl (Nat.le_of_ble_eq_true rfl) dX10_search_24 (fun v6 ms hd => ?_)
    show V K 7 (mkM am hn ms) 27 [(0, .ref am), (1, .int p1)] [.int v6]
    refine v_istore_n (lv2 := [(2, .int v6), (0, .ref am), (1, .int p1)]) X dX10_search_27 2 rfl (by decide) rfl ?_
    refine v_aload_n X dX10_search_28 1 0 rfl rfl ?_
    refine t_getA (j := 25) X rfl fl_X10_87 dX10_search_29 ?_
    refine v_iconst (v := 0) X dX10_search_32 (by decide) ?_
    refine v_iload_n X dX10_search_33 0 2 rfl rfl ?_
    refine t_iast (j := 25) X hd rfl dX10_search_34 (fun ms hd => ?_)
    refine v_aload_n X dX10_search_35 1 0 rfl rfl ?_
    refine v_iconst (v := 1) X dX10_search_36 (by decide) ?_
    refine t_putI X hd rfl fp_X10_414 dX10_search_37 (fun ms hd => ?_)
    refine v_aload_n X dX10_search_40 1 0 rfl rfl ?_
    refine t_getA (j := 27) X rfl fl_X10_93 dX10_search_41 ?_
    refine v_iload_n X dX10_search_44 0 2 rfl rfl ?_
    refine v_bipush (v := (-4)) X dX10_search_45 (by decide) ?_
    refine t_iast (j := 27) X hd rfl dX10_search_47 (fun ms hd => ?_)
    refine v_iconst (v := 0) X dX10_search_48 (by decide) ?_
    refine v_istore_n (lv2 := [(3, .int 0), (2, .int v6), (0, .ref am), (1, .int p1)]) X dX10_search_49 3 rfl (by decide) rfl ?_
    refine v_loc [2, 3, 0] rfl ?_
    refine Tloop_ind hd (fun (s7 : Int32) m => V K 7 (mkM am hn m) 50 [(0, .ref am), (1, .int p1), (3, .int s7)] []) (fun s7 ms x m2 hd ih8 ho9 => ?_)
    refine v_iload_n X dX10_search_50 2 3 rfl rfl ?_
    refine v_aload_n X dX10_search_51 0 0 rfl rfl ?_
    refine t_getI X hd rfl fl_X10_414 dX10_search_52 (fun v10 hd => ?_)
    refine v_icmp_ge (tgt := 184) X dX10_search_55 (by decide) (fun q => ?_) (fun q => ?_)
    · have hd := Tite_t q hd
      refine v_iconst (v := (-1)) X dX10_search_184 (by decide) ?_
      have hd := Tlp_out hd ho9
      exact t_iret X hK hd ho dX10_search_185
    · have hd := Tite_f q hd
      refine v_aload_n X dX10_search_58 0 0 rfl rfl ?_
      refine t_getA (j := 25) X rfl fl_X10_87 dX10_search_59 ?_
      refine v_iload_n X dX10_search_62 2 3 rfl rfl ?_
      refine t_iald (j := 25) X hd rfl dX10_search_63 (fun v11 hd => ?_)
      refine v_istore (lv2 := [(4, .int v11), (0, .ref am), (1, .int p1), (3, .int s7)]) X dX10_search_64 (by decide) rfl ?_
      refine v_iload X dX10_search_66 0 rfl ?_
      refine v_bipush (v := 100) X dX10_search_68 (by decide) ?_
      refine v_irem X dX10_search_70 (by decide) ?_
      refine v_iload_n X dX10_search_71 2 1 rfl rfl ?_
      refine v_icmp_ne (tgt := 78) X dX10_search_72 (by decide) (fun q => ?_) (fun q => ?_)
      · have hd := Tite_f q hd
        refine v_iconst (v := 0) X dX10_search_78 (by decide) ?_
        refine v_istore (lv2 := [(5, .int 0), (4, .int v11), (0, .ref am), (1, .int p1), (3, .int s7)]) X dX10_search_79 (by decide) rfl ?_
        obtain ⟨e15, m1, hd, hd2⟩ := TM.bind_some hd
        have KX : V K 7 (mkM am hn m1) 178 [(0, .ref am), (1, .int p1), (3, .int s7)] [] := by
          clear hd
          have hd := hd2
          refine t_iincL (lv2 := fun v25 => [(3, .int v25), (0, .ref am), (1, .int p1)]) X hd dX10_search_178 2 rfl (by decide : Int32.ofInt 1 = 1) (by decide) (fun v25 => rfl) (fun v25 hd => ?_)
          refine v_goto (tgt := 50) X dX10_search_181 (by decide) ?_
          exact v_loc [1, 2, 0] rfl (Tlp_in (P := fun (s7 : Int32) m => V K 7 (mkM am hn m) 50 [(0, .ref am), (1, .int p1), (3, .int s7)] []) hd ih8)
        clear hd2
        refine v_loc [2, 3, 4, 1, 0] rfl ?_
        refine Tloop_ind hd (fun (s12 : Int32) m => V K 7 (mkM am hn m) 81 [(0, .ref am), (1, .int p1), (3, .int s7), (4, .int v11), (5, .int s12)] []) (fun s12 ms x m2 hd ih13 ho14 => ?_)
        refine v_iload X dX10_search_81 4 rfl ?_
        refine v_iconst (v := 4) X dX10_search_83 (by decide) ?_
        refine v_iconst (v := 2) X dX10_search_84 (by decide) ?_
        refine v_aload_n X dX10_search_85 0 0 rfl rfl ?_
        refine t_callV X hK hd (ct_X10_doors _ am) (lw_V q1986 q1988 qs57 q120 q1989) ⟨rfl, dn_X10_doors⟩ rfl ⟨by decide, by decide⟩ rfl (Nat.le_of_ble_eq_true rfl) dX10_search_86 (fun v16 ms hd => ?_)
        show V K 7 (mkM am hn ms) 89 [(0, .ref am), (1, .int p1), (3, .int s7), (4, .int v11), (5, .int s12)] [.int v16, .int 2, .int 4, .int s12]
        refine v_imul X dX10_search_89 ?_
        refine v_iadd X dX10_search_90 ?_
        refine v_icmp_ge (tgt := 178) X dX10_search_91 (by decide) (fun q => ?_) (fun q => ?_)
        · have hd := Tite_t q hd
          exact v_loc [0, 1, 2] rfl (t_at (P := fun (e15 : Unit) m => V K 7 (mkM am hn m) 178 [(0, .ref am), (1, .int p1), (3, .int s7)] []) (Tlp_out hd ho14) KX)
        · have hd := Tite_f q hd
          refine v_aload_n X dX10_search_94 0 0 rfl rfl ?_
          refine v_iload X dX10_search_95 3 rfl ?_
          refine t_callV X hK hd (ct_X10_layState _ am v11) (lw_V q2248 q2250 qs95 q120 q2251) ⟨rfl, dn_X10_layState⟩ rfl ⟨by decide, by decide⟩ rfl (Nat.le_of_ble_eq_true rfl) dX10_search_97 (fun v17 ms hd => ?_)
          show V K 7 (mkM am hn ms) 100 [(0, .ref am), (1, .int p1), (3, .int s7), (4, .int v11), (5, .int s12)] []
          refine v_aload_n X dX10_search_100 0 0 rfl rfl ?_
          refine v_iload X dX10_search_101 4 rfl ?_
          refine t_callV X hK hd (ct_X10_minute _ am s12) (lw_V q2168 q2170 qs81 q120 q2171) ⟨rfl, dn_X10_minute⟩ rfl ⟨by decide, by decide⟩ rfl (Nat.le_of_ble_eq_true rfl) dX10_search_103 (fun v18 ms hd => ?_)
          show V K 7 (mkM am hn ms) 106 [(0, .ref am), (1, .int p1), (3, .int s7), (4, .int v11), (5, .int s12)] [.int v18]
          obtain ⟨u19, m1, hd, hd2⟩ := TM.bind_some hd
          have KJ : V K 7 (mkM am hn m1) 172 [(0, .ref am), (1, .int p1), (3, .int s7), (4, .int v11), (5, .int s12)] [] := by
            clear hd
            have hd := hd2
            refine t_iincL (lv2 := fun v20 => [(5, .int v20), (0, .ref am), (1, .int p1), (3, .int s7), (4, .int v11)]) X hd dX10_search_172 4 rfl (by decide : Int32.ofInt 1 = 1) (by decide) (fun v20 => rfl) (fun v20 hd => ?_)
            refine v_goto (tgt := 81) X dX10_search_175 (by decide) ?_
            exact v_loc [1, 2, 3, 4, 0] rfl (Tlp_in (P := fun (s12 : Int32) m => V K 7 (mkM am hn m) 81 [(0, .ref am), (1, .int p1), (3, .int s7), (4, .int v11), (5, .int s12)] []) hd ih13)
          clear hd2
          refine v_if_eq (tgt := 112) X dX10_search_106 (by decide) (fun q => ?_) (fun q => ?_)
          · have hd := Tite_t q hd
            refine v_aload_n X dX10_search_112 0 0 rfl rfl ?_
            refine t_callV X hK hd (ct_X10_stateAtHand _ am) (lw_V q2244 q2246 qs94 q120 q2247) ⟨rfl, dn_X10_stateAtHand⟩ rfl ⟨by decide, by decide⟩ rfl (Nat.le_of_ble_eq_true rfl) dX10_search_113 (fun v21 ms hd => ?_)
            show V K 7 (mkM am hn ms) 116 [(0, .ref am), (1, .int p1), (3, .int s7), (4, .int v11), (5, .int s12)] [.int v21]
            refine v_istore (lv2 := [(6, .int v21), (0, .ref am), (1, .int p1), (3, .int s7), (4, .int v11), (5, .int s12)]) X dX10_search_116 (by decide) rfl ?_
            refine v_aload_n X dX10_search_118 1 0 rfl rfl ?_
            refine t_getA (j := 27) X rfl fl_X10_93 dX10_search_119 ?_
            refine v_iload X dX10_search_122 0 rfl ?_
            refine t_iald (j := 27) X hd rfl dX10_search_124 (fun v22 hd => ?_)
            refine v_bipush (v := (-5)) X dX10_search_125 (by decide) ?_
            refine v_icmp_eq (tgt := 133) X dX10_search_127 (by decide) (fun q => ?_) (fun q => ?_)
            · have hd := Tite_t q hd
              refine v_aload_n X dX10_search_133 1 0 rfl rfl ?_
              refine t_getA (j := 27) X rfl fl_X10_93 dX10_search_134 ?_
              refine v_iload X dX10_search_137 0 rfl ?_
              refine v_iload X dX10_search_139 5 rfl ?_
              refine t_iast (j := 27) X hd rfl dX10_search_141 (fun ms hd => ?_)
              refine v_aload_n X dX10_search_142 1 0 rfl rfl ?_
              refine t_getA (j := 26) X rfl fl_X10_90 dX10_search_143 ?_
              refine v_iload X dX10_search_146 0 rfl ?_
              refine v_iload X dX10_search_148 4 rfl ?_
              refine t_iast (j := 26) X hd rfl dX10_search_150 (fun ms hd => ?_)
              refine v_aload_n X dX10_search_151 1 0 rfl rfl ?_
              refine t_getA (j := 25) X rfl fl_X10_87 dX10_search_152 ?_
              refine v_aload_n X dX10_search_155 1 0 rfl rfl ?_
              refine t_getI X hd rfl fl_X10_414 dX10_search_156 (fun v23 hd => ?_)
              refine v_iload X dX10_search_159 0 rfl ?_
              refine t_iast (j := 25) X hd rfl dX10_search_161 (fun ms hd => ?_)
              refine v_aload_n X dX10_search_162 1 0 rfl rfl ?_
              refine v_dup X dX10_search_163 rfl ?_
              refine t_getI X hd rfl fl_X10_414 dX10_search_164 (fun v24 hd => ?_)
              refine v_iconst (v := 1) X dX10_search_167 (by decide) ?_
              refine v_iadd X dX10_search_168 ?_
              refine t_putI X hd rfl fp_X10_414 dX10_search_169 (fun ms hd => ?_)
              exact v_loc [1, 2, 3, 4, 5] rfl (t_at (P := fun (u19 : Unit) m => V K 7 (mkM am hn m) 172 [(0, .ref am), (1, .int p1), (3, .int s7), (4, .int v11), (5, .int s12)] []) hd KJ)
            · have hd := Tite_f q hd
              refine v_goto (tgt := 172) X dX10_search_130 (by decide) ?_
              exact v_loc [1, 2, 3, 4, 5] rfl (t_at (P := fun (u19 : Unit) m => V K 7 (mkM am hn m) 172 [(0, .ref am), (1, .int p1), (3, .int s7), (4, .int v11), (5, .int s12)] []) hd KJ)
          · have hd := Tite_f q hd
            refine v_goto (tgt := 172) X dX10_search_109 (by decide) ?_
            exact v_loc [0, 1, 2, 3, 4] rfl (t_at (P := fun (u19 : Unit) m => V K 7 (mkM am hn m) 172 [(0, .ref am), (1, .int p1), (3, .int s7), (4, .int v11), (5, .int s12)] []) hd KJ)
      · have hd := Tite_t q hd
        refine v_iload X dX10_search_75 0 rfl ?_
        have hd := Tlp_out hd ho9
        exact t_iret X hK hd ho dX10_search_77
  clear hd2
  refine v_loc [1, 2, 0] rfl ?_
  refine Tloop_ind hd (fun (s1 : Int32) m => V K 7 (mkM am hn m) 2 [(0, .ref am), (1, .int p1), (2, .int s1)] []) (fun s1 ms x m2 hd ih2 ho3 => ?_)
  refine v_iload_n X dX10_search_2 2 2 rfl rfl ?_
  refine v_sipush (v := 24300) X dX10_search_3 (by decide) ?_
  refine v_icmp_ge (tgt := 23) X dX10_search_6 (by decide) (fun q => ?_) (fun q => ?_)
  · have hd := Tite_t q hd
    exact v_loc [0, 1] rfl (t_at (P := fun (e4 : Unit) m => V K 7 (mkM am hn m) 23 [(0, .ref am), (1, .int p1)] []) (Tlp_out hd ho3) KX)
  · have hd := Tite_f q hd
    refine v_aload_n X dX10_search_9 0 0 rfl rfl ?_
    refine t_getA (j := 27) X rfl fl_X10_93 dX10_search_10 ?_
    refine v_iload_n X dX10_search_13 2 2 rfl rfl ?_
    refine v_bipush (v := (-5)) X dX10_search_14 (by decide) ?_
    refine t_iast (j := 27) X hd rfl dX10_search_16 (fun ms hd => ?_)
    refine t_iincL (lv2 := fun v5 => [(2, .int v5), (0, .ref am), (1, .int p1)]) X hd dX10_search_17 2 rfl (by decide : Int32.ofInt 1 = 1) (by decide) (fun v5 => rfl) (fun v5 hd => ?_)
    refine v_goto (tgt := 2) X dX10_search_20 (by decide) ?_
    exact v_loc [1, 2, 0] rfl (Tlp_in (P := fun (s1 : Int32) m => V K 7 (mkM am hn m) 2 [(0, .ref am), (1, .int p1), (2, .int s1)] []) hd ih2)
