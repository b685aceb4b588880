set_option maxRecDepth 100000
def dkwX6_init_0 : List UInt8 := [42, 43, 181, 0, 3, 42, 183, 0, 9, 42, 28, 181, 0, 15, 177]
abbrev dktX6_init_0 : List UInt8 := dkwX6_init_0 ++ []
theorem dksX6_init_0 : cX6_init.data.toList.drop 0 = dktX6_init_0 := by decide +kernel
theorem dX6_init_0 : decode cX6_init 0 = .ok (.aload_n 0, 1) := dk_42 (dk_at dksX6_init_0 0 rfl rfl)
theorem dX6_init_1 : decode cX6_init 1 = .ok (.aload_n 1, 1) := dk_43 (dk_at dksX6_init_0 1 rfl rfl)
theorem dX6_init_2 : decode cX6_init 2 = .ok (.putfield 3, 3) := dk_181 0 3 (dk_at dksX6_init_0 2 rfl rfl)
theorem dX6_init_5 : decode cX6_init 5 = .ok (.aload_n 0, 1) := dk_42 (dk_at dksX6_init_0 5 rfl rfl)
theorem dX6_init_6 : decode cX6_init 6 = .ok (.invokespecial 9, 3) := dk_183 0 9 (dk_at dksX6_init_0 6 rfl rfl)
theorem dX6_init_9 : decode cX6_init 9 = .ok (.aload_n 0, 1) := dk_42 (dk_at dksX6_init_0 9 rfl rfl)
theorem dX6_init_10 : decode cX6_init 10 = .ok (.iload_n 2, 1) := dk_28 (dk_at dksX6_init_0 10 rfl rfl)
theorem dX6_init_11 : decode cX6_init 11 = .ok (.putfield 15, 3) := dk_181 0 15 (dk_at dksX6_init_0 11 rfl rfl)
theorem dX6_init_14 : decode cX6_init 14 = .ok (.return_, 1) := dk_177 (dk_at dksX6_init_0 14 rfl rfl)
theorem fp_X6_15_i : gFp "BitingDoors$Reader" "<init>" 15 [5, 6, 7] 0 .int := by
  intro args s hts hN ci hc
  simp only [List.mem_cons, List.not_mem_nil, or_false] at hc
  rcases hc with rfl | rfl | rfl
  · exact ⟨RX7, TX7, 10, "BitingDoors$Reader", gCl_X7, in_X7, by decide, Or.inr ⟨rfl, rfl, rfl, gFin hts in_X7 (k := 0) (by decide) rfl, hts _ q387⟩, fun _ h => h, rfl, fun D tys hK => gap_X7 hts hK⟩
  · exact ⟨RX8, TX8, 9, "BitingDoors$Reader", gCl_X8, in_X8, by decide, Or.inr ⟨rfl, rfl, rfl, gFin hts in_X8 (k := 0) (by decide) rfl, hts _ q387⟩, fun _ h => h, rfl, fun D tys hK => gap_X8 hts hK⟩
  · exact ⟨RX9, TX9, 12, "BitingDoors$Reader", gCl_X9, in_X9, by decide, Or.inr ⟨rfl, rfl, rfl, gFin hts in_X9 (k := 0) (by decide) rfl, hts _ q387⟩, fun _ h => h, rfl, fun D tys hK => gap_X9 hts hK⟩
theorem fp_X6_3_i : gFp "BitingDoors$Reader" "<init>" 3 [5, 6, 7] 7 (.object "BitingDoors") := by
  intro args s hts hN ci hc
  simp only [List.mem_cons, List.not_mem_nil, or_false] at hc
  rcases hc with rfl | rfl | rfl
  · exact ⟨RX7, TX7, 10, "BitingDoors$Reader", gCl_X7, in_X7, by decide, Or.inr ⟨rfl, rfl, rfl, gFin hts in_X7 (k := 7) (by decide) rfl, hts _ q410⟩, fun _ h => h, rfl, fun D tys hK => gap_X7 hts hK⟩
  · exact ⟨RX8, TX8, 9, "BitingDoors$Reader", gCl_X8, in_X8, by decide, Or.inr ⟨rfl, rfl, rfl, gFin hts in_X8 (k := 7) (by decide) rfl, hts _ q410⟩, fun _ h => h, rfl, fun D tys hK => gap_X8 hts hK⟩
  · exact ⟨RX9, TX9, 12, "BitingDoors$Reader", gCl_X9, in_X9, by decide, Or.inr ⟨rfl, rfl, rfl, gFin hts in_X9 (k := 7) (by decide) rfl, hts _ q410⟩, fun _ h => h, rfl, fun D tys hK => gap_X9 hts hK⟩
theorem dn_X6_init : yX6_init.cls ≠ "java/lang/invoke/MethodHandle" ∧ yX6_init.cls ≠ "java/lang/invoke/VarHandle" ∧ (parseMethodDescriptor yX6_init.desc).map (fun d => d.parameters.length) = some 2 := by decide +kernel
noncomputable def M_X6_init (t : Nat) (p1 : Nat) (p2 : Int32) : Mo Unit := Mo.bind (pF [5, 6, 7] t 7 (.ref p1)) (fun _ => Mo.bind (pF [5, 6, 7] t 0 (.int p2)) (fun _ => Mo.pure ()))
set_option maxHeartbeats 4000000 in
theorem ct_X6_init (G : gG) (t : Nat) (p1 : Nat) (p2 : Int32) : gCt G yX6_init cX6_init 3 none 1 20 [.ref t, .ref p1, .int p2] (M_X6_init t p1 p2) (fun _ : Unit => none) := by
  refine gCt.of (by decide) (Nat.le_of_ble_eq_true rfl) (fun K r hG X hd ho => ?_)
  subst hG
  have X : gX K cX6_init 3 "BitingDoors$Reader" "<init>" none 1 20 := X
  have hle : gLe (kh1 K) (kh1 K) := gLe.rf
  show V K 3 (kh0 K) 0 [(0, .ref t), (1, .ref p1), (2, .int p2)] []
  generalize kh0 K = h at hd ⊢
  unfold M_X6_init at hd
  refine v_aload_n X dX6_init_0 0 0 rfl rfl ?_
  refine v_aload_n X dX6_init_1 1 1 rfl rfl ?_
  refine v_put (v := .ref p1) X hd fp_X6_3_i rfl rfl dX6_init_2 (fun h hd => ?_)
  refine v_aload_n X dX6_init_5 0 0 rfl rfl ?_
  refine v_objInit X q384 q152 q153 (Nat.le_of_ble_eq_true rfl) dX6_init_6 (by decide) (by decide) ?_
  refine v_aload_n X dX6_init_9 0 0 rfl rfl ?_
  refine v_iload_n X dX6_init_10 2 2 rfl rfl ?_
  refine v_put (v := .int p2) X hd fp_X6_15_i rfl rfl dX6_init_11 (fun h hd => ?_)
  exact v_vret X hd ho dX6_init_14
def dkwX7_init_0 : List UInt8 := [42, 43, 181, 0, 3, 42, 43, 17, 3, 132, 183, 0, 9, 177]
abbrev dktX7_init_0 : List UInt8 := dkwX7_init_0 ++ []
theorem dksX7_init_0 : cX7_init.data.toList.drop 0 = dktX7_init_0 := by decide +kernel
theorem dX7_init_0 : decode cX7_init 0 = .ok (.aload_n 0, 1) := dk_42 (dk_at dksX7_init_0 0 rfl rfl)
theorem dX7_init_1 : decode cX7_init 1 = .ok (.aload_n 1, 1) := dk_43 (dk_at dksX7_init_0 1 rfl rfl)
theorem dX7_init_2 : decode cX7_init 2 = .ok (.putfield 3, 3) := dk_181 0 3 (dk_at dksX7_init_0 2 rfl rfl)
theorem dX7_init_5 : decode cX7_init 5 = .ok (.aload_n 0, 1) := dk_42 (dk_at dksX7_init_0 5 rfl rfl)
theorem dX7_init_6 : decode cX7_init 6 = .ok (.aload_n 1, 1) := dk_43 (dk_at dksX7_init_0 6 rfl rfl)
theorem dX7_init_7 : decode cX7_init 7 = .ok (.sipush 900, 3) := dk_17 3 132 (dk_at dksX7_init_0 7 rfl rfl)
theorem dX7_init_10 : decode cX7_init 10 = .ok (.invokespecial 9, 3) := dk_183 0 9 (dk_at dksX7_init_0 10 rfl rfl)
theorem dX7_init_13 : decode cX7_init 13 = .ok (.return_, 1) := dk_177 (dk_at dksX7_init_0 13 rfl rfl)
theorem fp_X7_3_i : gFp "BitingDoors$HouseReader" "<init>" 3 [5] 9 (.object "BitingDoors") := by
  intro args s hts hN ci hc
  simp only [List.mem_cons, List.not_mem_nil, or_false] at hc
  subst hc
  exact ⟨RX7, TX7, 10, "BitingDoors$HouseReader", gCl_X7, in_X7, by decide, Or.inr ⟨rfl, rfl, rfl, gFin hts in_X7 (k := 9) (by decide) rfl, hts _ q386⟩, fun _ h => h, rfl, fun D tys hK => gap_X7 hts hK⟩
theorem dn_X7_init : yX7_init.cls ≠ "java/lang/invoke/MethodHandle" ∧ yX7_init.cls ≠ "java/lang/invoke/VarHandle" ∧ (parseMethodDescriptor yX7_init.desc).map (fun d => d.parameters.length) = some 1 := by decide +kernel
noncomputable def M_X7_init (t : Nat) (p1 : Nat) : Mo Unit := Mo.bind (pF [5] t 9 (.ref p1)) (fun _ => Mo.bind (M_X6_init t p1 900) (fun v1 => Mo.pure ()))
set_option maxHeartbeats 4000000 in
theorem ct_X7_init (G : gG) (t : Nat) (p1 : Nat) : gCt G yX7_init cX7_init 2 none 2 42 [.ref t, .ref p1] (M_X7_init t p1) (fun _ : Unit => none) := by
  refine gCt.of (by decide) (Nat.le_of_ble_eq_true rfl) (fun K r hG X hd ho => ?_)
  subst hG
  have X : gX K cX7_init 2 "BitingDoors$HouseReader" "<init>" none 2 42 := X
  have hle : gLe (kh1 K) (kh1 K) := gLe.rf
  show V K 2 (kh0 K) 0 [(0, .ref t), (1, .ref p1)] []
  generalize kh0 K = h at hd ⊢
  unfold M_X7_init at hd
  refine v_aload_n X dX7_init_0 0 0 rfl rfl ?_
  refine v_aload_n X dX7_init_1 1 1 rfl rfl ?_
  refine v_put (v := .ref p1) X hd fp_X7_3_i rfl rfl dX7_init_2 (fun h hd => ?_)
  refine v_aload_n X dX7_init_5 0 0 rfl rfl ?_
  refine v_aload_n X dX7_init_6 1 1 rfl rfl ?_
  refine v_sipush (v := 900) X dX7_init_7 (by decide) ?_
  refine v_callI X hd hle (ct_X6_init _ t p1 900) q383 q116 q381 q382 rfl dn_X6_init rfl ⟨by decide, by decide⟩ rfl (Nat.le_of_ble_eq_true rfl) dX7_init_10 (fun v1 h hd => ?_)
  show V K 2 h 13 [(0, .ref t), (1, .ref p1)] []
  exact v_vret X hd ho dX7_init_13
def dkwX8_init_0 : List UInt8 := [42, 43, 181, 0, 3, 42, 43, 17, 2, 88, 183, 0, 9, 177]
abbrev dktX8_init_0 : List UInt8 := dkwX8_init_0 ++ []
theorem dksX8_init_0 : cX8_init.data.toList.drop 0 = dktX8_init_0 := by decide +kernel
theorem dX8_init_0 : decode cX8_init 0 = .ok (.aload_n 0, 1) := dk_42 (dk_at dksX8_init_0 0 rfl rfl)
theorem dX8_init_1 : decode cX8_init 1 = .ok (.aload_n 1, 1) := dk_43 (dk_at dksX8_init_0 1 rfl rfl)
theorem dX8_init_2 : decode cX8_init 2 = .ok (.putfield 3, 3) := dk_181 0 3 (dk_at dksX8_init_0 2 rfl rfl)
theorem dX8_init_5 : decode cX8_init 5 = .ok (.aload_n 0, 1) := dk_42 (dk_at dksX8_init_0 5 rfl rfl)
theorem dX8_init_6 : decode cX8_init 6 = .ok (.aload_n 1, 1) := dk_43 (dk_at dksX8_init_0 6 rfl rfl)
theorem dX8_init_7 : decode cX8_init 7 = .ok (.sipush 600, 3) := dk_17 2 88 (dk_at dksX8_init_0 7 rfl rfl)
theorem dX8_init_10 : decode cX8_init 10 = .ok (.invokespecial 9, 3) := dk_183 0 9 (dk_at dksX8_init_0 10 rfl rfl)
theorem dX8_init_13 : decode cX8_init 13 = .ok (.return_, 1) := dk_177 (dk_at dksX8_init_0 13 rfl rfl)
theorem fp_X8_3_i : gFp "BitingDoors$DayReader" "<init>" 3 [6] 8 (.object "BitingDoors") := by
  intro args s hts hN ci hc
  simp only [List.mem_cons, List.not_mem_nil, or_false] at hc
  subst hc
  exact ⟨RX8, TX8, 9, "BitingDoors$DayReader", gCl_X8, in_X8, by decide, Or.inr ⟨rfl, rfl, rfl, gFin hts in_X8 (k := 8) (by decide) rfl, hts _ q438⟩, fun _ h => h, rfl, fun D tys hK => gap_X8 hts hK⟩
theorem dn_X8_init : yX8_init.cls ≠ "java/lang/invoke/MethodHandle" ∧ yX8_init.cls ≠ "java/lang/invoke/VarHandle" ∧ (parseMethodDescriptor yX8_init.desc).map (fun d => d.parameters.length) = some 1 := by decide +kernel
noncomputable def M_X8_init (t : Nat) (p1 : Nat) : Mo Unit := Mo.bind (pF [6] t 8 (.ref p1)) (fun _ => Mo.bind (M_X6_init t p1 600) (fun v1 => Mo.pure ()))
set_option maxHeartbeats 4000000 in
theorem ct_X8_init (G : gG) (t : Nat) (p1 : Nat) : gCt G yX8_init cX8_init 2 none 2 42 [.ref t, .ref p1] (M_X8_init t p1) (fun _ : Unit => none) := by
  refine gCt.of (by decide) (Nat.le_of_ble_eq_true rfl) (fun K r hG X hd ho => ?_)
  subst hG
  have X : gX K cX8_init 2 "BitingDoors$DayReader" "<init>" none 2 42 := X
  have hle : gLe (kh1 K) (kh1 K) := gLe.rf
  show V K 2 (kh0 K) 0 [(0, .ref t), (1, .ref p1)] []
  generalize kh0 K = h at hd ⊢
  unfold M_X8_init at hd
  refine v_aload_n X dX8_init_0 0 0 rfl rfl ?_
  refine v_aload_n X dX8_init_1 1 1 rfl rfl ?_
  refine v_put (v := .ref p1) X hd fp_X8_3_i rfl rfl dX8_init_2 (fun h hd => ?_)
  refine v_aload_n X dX8_init_5 0 0 rfl rfl ?_
  refine v_aload_n X dX8_init_6 1 1 rfl rfl ?_
  refine v_sipush (v := 600) X dX8_init_7 (by decide) ?_
  refine v_callI X hd hle (ct_X6_init _ t p1 600) q383 q116 q437 q382 rfl dn_X6_init rfl ⟨by decide, by decide⟩ rfl (Nat.le_of_ble_eq_true rfl) dX8_init_10 (fun v1 h hd => ?_)
  show V K 2 h 13 [(0, .ref t), (1, .ref p1)] []
  exact v_vret X hd ho dX8_init_13
def dkwX9_init_2 : List UInt8 := [18, 29, 83, 89, 5, 18, 31, 83, 89, 6, 18, 33, 83, 89, 7, 18, 35, 83, 181, 0, 37, 177]
abbrev dktX9_init_2 : List UInt8 := dkwX9_init_2 ++ []
def dkwX9_init_1 : List UInt8 := [4, 18, 19, 83, 89, 5, 18, 21, 83, 181, 0, 23, 42, 8, 189, 0, 15, 89, 3, 18, 27, 83, 89, 4]
abbrev dktX9_init_1 : List UInt8 := dkwX9_init_1 ++ dktX9_init_2
def dkwX9_init_0 : List UInt8 := [42, 43, 181, 0, 3, 42, 43, 17, 0, 200, 183, 0, 9, 42, 6, 189, 0, 15, 89, 3, 18, 17, 83, 89]
abbrev dktX9_init_0 : List UInt8 := dkwX9_init_0 ++ dktX9_init_1
theorem dksX9_init_0 : cX9_init.data.toList.drop 0 = dktX9_init_0 := by decide +kernel
theorem dksX9_init_1 : cX9_init.data.toList.drop 24 = dktX9_init_1 := dk_seg dksX9_init_0 24 rfl rfl
theorem dksX9_init_2 : cX9_init.data.toList.drop 48 = dktX9_init_2 := dk_seg dksX9_init_1 24 rfl rfl
theorem dX9_init_0 : decode cX9_init 0 = .ok (.aload_n 0, 1) := dk_42 (dk_at dksX9_init_0 0 rfl rfl)
theorem dX9_init_1 : decode cX9_init 1 = .ok (.aload_n 1, 1) := dk_43 (dk_at dksX9_init_0 1 rfl rfl)
theorem dX9_init_2 : decode cX9_init 2 = .ok (.putfield 3, 3) := dk_181 0 3 (dk_at dksX9_init_0 2 rfl rfl)
theorem dX9_init_5 : decode cX9_init 5 = .ok (.aload_n 0, 1) := dk_42 (dk_at dksX9_init_0 5 rfl rfl)
theorem dX9_init_6 : decode cX9_init 6 = .ok (.aload_n 1, 1) := dk_43 (dk_at dksX9_init_0 6 rfl rfl)
theorem dX9_init_7 : decode cX9_init 7 = .ok (.sipush 200, 3) := dk_17 0 200 (dk_at dksX9_init_0 7 rfl rfl)
theorem dX9_init_10 : decode cX9_init 10 = .ok (.invokespecial 9, 3) := dk_183 0 9 (dk_at dksX9_init_0 10 rfl rfl)
theorem dX9_init_13 : decode cX9_init 13 = .ok (.aload_n 0, 1) := dk_42 (dk_at dksX9_init_0 13 rfl rfl)
theorem dX9_init_14 : decode cX9_init 14 = .ok (.iconst 3, 1) := dk_6 (dk_at dksX9_init_0 14 rfl rfl)
theorem dX9_init_15 : decode cX9_init 15 = .ok (.anewarray 15, 3) := dk_189 0 15 (dk_at dksX9_init_0 15 rfl rfl)
theorem dX9_init_18 : decode cX9_init 18 = .ok (.dup, 1) := dk_89 (dk_at dksX9_init_0 18 rfl rfl)
theorem dX9_init_19 : decode cX9_init 19 = .ok (.iconst 0, 1) := dk_3 (dk_at dksX9_init_0 19 rfl rfl)
theorem dX9_init_20 : decode cX9_init 20 = .ok (.ldc 17, 2) := dk_18 17 (dk_at dksX9_init_0 20 rfl rfl)
theorem dX9_init_22 : decode cX9_init 22 = .ok (.aastore, 1) := dk_83 (dk_at dksX9_init_0 22 rfl rfl)
theorem dX9_init_23 : decode cX9_init 23 = .ok (.dup, 1) := dk_89 (dk_at dksX9_init_0 23 rfl rfl)
theorem dX9_init_24 : decode cX9_init 24 = .ok (.iconst 1, 1) := dk_4 (dk_at dksX9_init_1 0 rfl rfl)
theorem dX9_init_25 : decode cX9_init 25 = .ok (.ldc 19, 2) := dk_18 19 (dk_at dksX9_init_1 1 rfl rfl)
theorem dX9_init_27 : decode cX9_init 27 = .ok (.aastore, 1) := dk_83 (dk_at dksX9_init_1 3 rfl rfl)
theorem dX9_init_28 : decode cX9_init 28 = .ok (.dup, 1) := dk_89 (dk_at dksX9_init_1 4 rfl rfl)
theorem dX9_init_29 : decode cX9_init 29 = .ok (.iconst 2, 1) := dk_5 (dk_at dksX9_init_1 5 rfl rfl)
theorem dX9_init_30 : decode cX9_init 30 = .ok (.ldc 21, 2) := dk_18 21 (dk_at dksX9_init_1 6 rfl rfl)
theorem dX9_init_32 : decode cX9_init 32 = .ok (.aastore, 1) := dk_83 (dk_at dksX9_init_1 8 rfl rfl)
theorem dX9_init_33 : decode cX9_init 33 = .ok (.putfield 23, 3) := dk_181 0 23 (dk_at dksX9_init_1 9 rfl rfl)
theorem dX9_init_36 : decode cX9_init 36 = .ok (.aload_n 0, 1) := dk_42 (dk_at dksX9_init_1 12 rfl rfl)
theorem dX9_init_37 : decode cX9_init 37 = .ok (.iconst 5, 1) := dk_8 (dk_at dksX9_init_1 13 rfl rfl)
theorem dX9_init_38 : decode cX9_init 38 = .ok (.anewarray 15, 3) := dk_189 0 15 (dk_at dksX9_init_1 14 rfl rfl)
theorem dX9_init_41 : decode cX9_init 41 = .ok (.dup, 1) := dk_89 (dk_at dksX9_init_1 17 rfl rfl)
theorem dX9_init_42 : decode cX9_init 42 = .ok (.iconst 0, 1) := dk_3 (dk_at dksX9_init_1 18 rfl rfl)
theorem dX9_init_43 : decode cX9_init 43 = .ok (.ldc 27, 2) := dk_18 27 (dk_at dksX9_init_1 19 rfl rfl)
theorem dX9_init_45 : decode cX9_init 45 = .ok (.aastore, 1) := dk_83 (dk_at dksX9_init_1 21 rfl rfl)
theorem dX9_init_46 : decode cX9_init 46 = .ok (.dup, 1) := dk_89 (dk_at dksX9_init_1 22 rfl rfl)
theorem dX9_init_47 : decode cX9_init 47 = .ok (.iconst 1, 1) := dk_4 (dk_at dksX9_init_1 23 rfl rfl)
theorem dX9_init_48 : decode cX9_init 48 = .ok (.ldc 29, 2) := dk_18 29 (dk_at dksX9_init_2 0 rfl rfl)
theorem dX9_init_50 : decode cX9_init 50 = .ok (.aastore, 1) := dk_83 (dk_at dksX9_init_2 2 rfl rfl)
theorem dX9_init_51 : decode cX9_init 51 = .ok (.dup, 1) := dk_89 (dk_at dksX9_init_2 3 rfl rfl)
theorem dX9_init_52 : decode cX9_init 52 = .ok (.iconst 2, 1) := dk_5 (dk_at dksX9_init_2 4 rfl rfl)
theorem dX9_init_53 : decode cX9_init 53 = .ok (.ldc 31, 2) := dk_18 31 (dk_at dksX9_init_2 5 rfl rfl)
theorem dX9_init_55 : decode cX9_init 55 = .ok (.aastore, 1) := dk_83 (dk_at dksX9_init_2 7 rfl rfl)
theorem dX9_init_56 : decode cX9_init 56 = .ok (.dup, 1) := dk_89 (dk_at dksX9_init_2 8 rfl rfl)
theorem dX9_init_57 : decode cX9_init 57 = .ok (.iconst 3, 1) := dk_6 (dk_at dksX9_init_2 9 rfl rfl)
theorem dX9_init_58 : decode cX9_init 58 = .ok (.ldc 33, 2) := dk_18 33 (dk_at dksX9_init_2 10 rfl rfl)
theorem dX9_init_60 : decode cX9_init 60 = .ok (.aastore, 1) := dk_83 (dk_at dksX9_init_2 12 rfl rfl)
theorem dX9_init_61 : decode cX9_init 61 = .ok (.dup, 1) := dk_89 (dk_at dksX9_init_2 13 rfl rfl)
theorem dX9_init_62 : decode cX9_init 62 = .ok (.iconst 4, 1) := dk_7 (dk_at dksX9_init_2 14 rfl rfl)
theorem dX9_init_63 : decode cX9_init 63 = .ok (.ldc 35, 2) := dk_18 35 (dk_at dksX9_init_2 15 rfl rfl)
theorem dX9_init_65 : decode cX9_init 65 = .ok (.aastore, 1) := dk_83 (dk_at dksX9_init_2 17 rfl rfl)
theorem dX9_init_66 : decode cX9_init 66 = .ok (.putfield 37, 3) := dk_181 0 37 (dk_at dksX9_init_2 18 rfl rfl)
theorem dX9_init_69 : decode cX9_init 69 = .ok (.return_, 1) := dk_177 (dk_at dksX9_init_2 21 rfl rfl)
theorem fp_X9_23_i : gFp "BitingDoors$SentenceReader" "<init>" 23 [7] 8 (.array (.object "java/lang/String")) := by
  intro args s hts hN ci hc
  simp only [List.mem_cons, List.not_mem_nil, or_false] at hc
  subst hc
  exact ⟨RX9, TX9, 12, "BitingDoors$SentenceReader", gCl_X9, in_X9, by decide, Or.inr ⟨rfl, rfl, rfl, gFin hts in_X9 (k := 8) (by decide) rfl, hts _ q465⟩, fun _ h => h, rfl, fun D tys hK => gap_X9 hts hK⟩
theorem fp_X9_3_i : gFp "BitingDoors$SentenceReader" "<init>" 3 [7] 11 (.object "BitingDoors") := by
  intro args s hts hN ci hc
  simp only [List.mem_cons, List.not_mem_nil, or_false] at hc
  subst hc
  exact ⟨RX9, TX9, 12, "BitingDoors$SentenceReader", gCl_X9, in_X9, by decide, Or.inr ⟨rfl, rfl, rfl, gFin hts in_X9 (k := 11) (by decide) rfl, hts _ q469⟩, fun _ h => h, rfl, fun D tys hK => gap_X9 hts hK⟩
theorem fp_X9_37_i : gFp "BitingDoors$SentenceReader" "<init>" 37 [7] 9 (.array (.object "java/lang/String")) := by
  intro args s hts hN ci hc
  simp only [List.mem_cons, List.not_mem_nil, or_false] at hc
  subst hc
  exact ⟨RX9, TX9, 12, "BitingDoors$SentenceReader", gCl_X9, in_X9, by decide, Or.inr ⟨rfl, rfl, rfl, gFin hts in_X9 (k := 9) (by decide) rfl, hts _ q466⟩, fun _ h => h, rfl, fun D tys hK => gap_X9 hts hK⟩
theorem dn_X9_init : yX9_init.cls ≠ "java/lang/invoke/MethodHandle" ∧ yX9_init.cls ≠ "java/lang/invoke/VarHandle" ∧ (parseMethodDescriptor yX9_init.desc).map (fun d => d.parameters.length) = some 1 := by decide +kernel
noncomputable def M_X9_init (t : Nat) (p1 : Nat) : Mo Unit := Mo.bind (pF [7] t 11 (.ref p1)) (fun _ => Mo.bind (M_X6_init t p1 200) (fun v1 => Mo.bind (nwR 10 3) (fun q2 => Mo.bind (astS q2 0 31) (fun _ => Mo.bind (astS q2 1 32) (fun _ => Mo.bind (astS q2 2 33) (fun _ => Mo.bind (pF [7] t 8 (.ref q2)) (fun _ => Mo.bind (nwR 10 5) (fun q3 => Mo.bind (astS q3 0 34) (fun _ => Mo.bind (astS q3 1 35) (fun _ => Mo.bind (astS q3 2 36) (fun _ => Mo.bind (astS q3 3 37) (fun _ => Mo.bind (astS q3 4 38) (fun _ => Mo.bind (pF [7] t 9 (.ref q3)) (fun _ => Mo.pure ()))))))))))))))
set_option maxHeartbeats 4000000 in
theorem ct_X9_init (G : gG) (t : Nat) (p1 : Nat) : gCt G yX9_init cX9_init 2 none 2 42 [.ref t, .ref p1] (M_X9_init t p1) (fun _ : Unit => none) := by
  refine gCt.of (by decide) (Nat.le_of_ble_eq_true rfl) (fun K r hG X hd ho => ?_)
  subst hG
  have X : gX K cX9_init 2 "BitingDoors$SentenceReader" "<init>" none 2 42 := X
  have hle : gLe (kh1 K) (kh1 K) := gLe.rf
  show V K 2 (kh0 K) 0 [(0, .ref t), (1, .ref p1)] []
  generalize kh0 K = h at hd ⊢
  unfold M_X9_init at hd
  refine v_aload_n X dX9_init_0 0 0 rfl rfl ?_
  refine v_aload_n X dX9_init_1 1 1 rfl rfl ?_
  refine v_put (v := .ref p1) X hd fp_X9_3_i rfl rfl dX9_init_2 (fun h hd => ?_)
  refine v_aload_n X dX9_init_5 0 0 rfl rfl ?_
  refine v_aload_n X dX9_init_6 1 1 rfl rfl ?_
  refine v_sipush (v := 200) X dX9_init_7 (by decide) ?_
  refine v_callI X hd hle (ct_X6_init _ t p1 200) q383 q116 q455 q382 rfl dn_X6_init rfl ⟨by decide, by decide⟩ rfl (Nat.le_of_ble_eq_true rfl) dX9_init_10 (fun v1 h hd => ?_)
  show V K 2 h 13 [(0, .ref t), (1, .ref p1)] []
  refine v_aload_n X dX9_init_13 0 0 rfl rfl ?_
  refine v_iconst (v := 3) X dX9_init_14 (by decide) ?_
  refine v_newR X hd hle 10 rfl q456 (by decide) dX9_init_15 (fun q2 h hd => ?_)
  refine v_dup X dX9_init_18 rfl ?_
  refine v_iconst (v := 0) X dX9_init_19 (by decide) ?_
  refine v_ldcS X 31 (by decide) rfl dX9_init_20 ?_
  refine v_astS X hd dX9_init_22 (fun h hd => ?_)
  refine v_dup X dX9_init_23 rfl ?_
  refine v_iconst (v := 1) X dX9_init_24 (by decide) ?_
  refine v_ldcS X 32 (by decide) rfl dX9_init_25 ?_
  refine v_astS X hd dX9_init_27 (fun h hd => ?_)
  refine v_dup X dX9_init_28 rfl ?_
  refine v_iconst (v := 2) X dX9_init_29 (by decide) ?_
  refine v_ldcS X 33 (by decide) rfl dX9_init_30 ?_
  refine v_astS X hd dX9_init_32 (fun h hd => ?_)
  refine v_put (v := .ref q2) X hd fp_X9_23_i rfl rfl dX9_init_33 (fun h hd => ?_)
  refine v_aload_n X dX9_init_36 0 0 rfl rfl ?_
  refine v_iconst (v := 5) X dX9_init_37 (by decide) ?_
  refine v_newR X hd hle 10 rfl q456 (by decide) dX9_init_38 (fun q3 h hd => ?_)
  refine v_dup X dX9_init_41 rfl ?_
  refine v_iconst (v := 0) X dX9_init_42 (by decide) ?_
  refine v_ldcS X 34 (by decide) rfl dX9_init_43 ?_
  refine v_astS X hd dX9_init_45 (fun h hd => ?_)
  refine v_dup X dX9_init_46 rfl ?_
  refine v_iconst (v := 1) X dX9_init_47 (by decide) ?_
  refine v_ldcS X 35 (by decide) rfl dX9_init_48 ?_
  refine v_astS X hd dX9_init_50 (fun h hd => ?_)
  refine v_dup X dX9_init_51 rfl ?_
  refine v_iconst (v := 2) X dX9_init_52 (by decide) ?_
  refine v_ldcS X 36 (by decide) rfl dX9_init_53 ?_
  refine v_astS X hd dX9_init_55 (fun h hd => ?_)
  refine v_dup X dX9_init_56 rfl ?_
  refine v_iconst (v := 3) X dX9_init_57 (by decide) ?_
  refine v_ldcS X 37 (by decide) rfl dX9_init_58 ?_
  refine v_astS X hd dX9_init_60 (fun h hd => ?_)
  refine v_dup X dX9_init_61 rfl ?_
  refine v_iconst (v := 4) X dX9_init_62 (by decide) ?_
  refine v_ldcS X 38 (by decide) rfl dX9_init_63 ?_
  refine v_astS X hd dX9_init_65 (fun h hd => ?_)
  refine v_put (v := .ref q3) X hd fp_X9_37_i rfl rfl dX9_init_66 (fun h hd => ?_)
  exact v_vret X hd ho dX9_init_69
def dkwX1_init_21 : List UInt8 := [42, 5, 189, 0, 188, 181, 0, 190, 177]
abbrev dktX1_init_21 : List UInt8 := dkwX1_init_21 ++ []
def dkwX1_init_20 : List UInt8 := [89, 42, 183, 0, 175, 181, 0, 176, 42, 5, 189, 0, 87, 181, 0, 180, 42, 5, 189, 0, 97, 181, 0, 184]
abbrev dktX1_init_20 : List UInt8 := dkwX1_init_20 ++ dktX1_init_21
def dkwX1_init_19 : List UInt8 := [181, 0, 163, 42, 17, 94, 236, 188, 10, 181, 0, 166, 42, 16, 100, 188, 4, 181, 0, 169, 42, 187, 0, 173]
abbrev dktX1_init_19 : List UInt8 := dkwX1_init_19 ++ dktX1_init_20
def dkwX1_init_18 : List UInt8 := [17, 94, 236, 188, 10, 181, 0, 157, 42, 17, 94, 236, 188, 10, 181, 0, 160, 42, 17, 94, 236, 188, 10]
abbrev dktX1_init_18 : List UInt8 := dkwX1_init_18 ++ dktX1_init_19
def dkwX1_init_17 : List UInt8 := [188, 10, 181, 0, 148, 42, 17, 4, 0, 188, 10, 181, 0, 151, 42, 8, 188, 10, 181, 0, 154, 42]
abbrev dktX1_init_17 : List UInt8 := dkwX1_init_17 ++ dktX1_init_18
def dkwX1_init_16 : List UInt8 := [181, 0, 139, 42, 16, 10, 188, 10, 181, 0, 142, 42, 16, 10, 188, 10, 181, 0, 145, 42, 17, 4, 0]
abbrev dktX1_init_16 : List UInt8 := dkwX1_init_16 ++ dktX1_init_17
def dkwX1_init_15 : List UInt8 := [181, 0, 130, 42, 16, 10, 188, 10, 181, 0, 133, 42, 16, 10, 188, 10, 181, 0, 136, 42, 16, 10, 188, 10]
abbrev dktX1_init_15 : List UInt8 := dkwX1_init_15 ++ dktX1_init_16
def dkwX1_init_14 : List UInt8 := [181, 0, 120, 42, 16, 10, 188, 10, 181, 0, 124, 42, 16, 10, 188, 10, 181, 0, 127, 42, 16, 10, 188, 10]
abbrev dktX1_init_14 : List UInt8 := dkwX1_init_14 ++ dktX1_init_15
def dkwX1_init_13 : List UInt8 := [183, 0, 106, 181, 0, 109, 42, 187, 0, 113, 89, 42, 183, 0, 115, 181, 0, 116, 42, 16, 10, 188, 10]
abbrev dktX1_init_13 : List UInt8 := dkwX1_init_13 ++ dktX1_init_14
def dkwX1_init_12 : List UInt8 := [183, 0, 89, 181, 0, 94, 42, 187, 0, 97, 89, 183, 0, 99, 181, 0, 100, 42, 187, 0, 104, 89, 42]
abbrev dktX1_init_12 : List UInt8 := dkwX1_init_12 ++ dktX1_init_13
def dkwX1_init_11 : List UInt8 := [6, 18, 46, 83, 181, 0, 84, 42, 187, 0, 87, 89, 183, 0, 89, 181, 0, 90, 42, 187, 0, 87, 89]
abbrev dktX1_init_11 : List UInt8 := dkwX1_init_11 ++ dktX1_init_12
def dkwX1_init_10 : List UInt8 := [181, 0, 81, 42, 7, 189, 0, 20, 89, 3, 18, 40, 83, 89, 4, 18, 42, 83, 89, 5, 18, 44, 83, 89]
abbrev dktX1_init_10 : List UInt8 := dkwX1_init_10 ++ dktX1_init_11
def dkwX1_init_9 : List UInt8 := [189, 0, 20, 89, 3, 18, 48, 83, 89, 4, 18, 50, 83, 89, 5, 18, 52, 83, 89, 6, 18, 54, 83]
abbrev dktX1_init_9 : List UInt8 := dkwX1_init_9 ++ dktX1_init_10
def dkwX1_init_8 : List UInt8 := [18, 22, 83, 89, 4, 18, 24, 83, 89, 5, 18, 26, 83, 89, 6, 18, 28, 83, 181, 0, 78, 42, 7]
abbrev dktX1_init_8 : List UInt8 := dkwX1_init_8 ++ dktX1_init_9
def dkwX1_init_7 : List UInt8 := [83, 89, 16, 24, 18, 70, 83, 89, 16, 25, 18, 72, 83, 181, 0, 74, 42, 7, 189, 0, 20, 89, 3]
abbrev dktX1_init_7 : List UInt8 := dkwX1_init_7 ++ dktX1_init_8
def dkwX1_init_6 : List UInt8 := [83, 89, 16, 20, 18, 62, 83, 89, 16, 21, 18, 64, 83, 89, 16, 22, 18, 66, 83, 89, 16, 23, 18, 68]
abbrev dktX1_init_6 : List UInt8 := dkwX1_init_6 ++ dktX1_init_7
def dkwX1_init_5 : List UInt8 := [83, 89, 16, 16, 18, 54, 83, 89, 16, 17, 18, 56, 83, 89, 16, 18, 18, 58, 83, 89, 16, 19, 18, 60]
abbrev dktX1_init_5 : List UInt8 := dkwX1_init_5 ++ dktX1_init_6
def dkwX1_init_4 : List UInt8 := [83, 89, 16, 12, 18, 46, 83, 89, 16, 13, 18, 48, 83, 89, 16, 14, 18, 50, 83, 89, 16, 15, 18, 52]
abbrev dktX1_init_4 : List UInt8 := dkwX1_init_4 ++ dktX1_init_5
def dkwX1_init_3 : List UInt8 := [83, 89, 16, 8, 18, 38, 83, 89, 16, 9, 18, 40, 83, 89, 16, 10, 18, 42, 83, 89, 16, 11, 18, 44]
abbrev dktX1_init_3 : List UInt8 := dkwX1_init_3 ++ dktX1_init_4
def dkwX1_init_2 : List UInt8 := [18, 28, 83, 89, 7, 18, 30, 83, 89, 8, 18, 32, 83, 89, 16, 6, 18, 34, 83, 89, 16, 7, 18, 36]
abbrev dktX1_init_2 : List UInt8 := dkwX1_init_2 ++ dktX1_init_3
def dkwX1_init_1 : List UInt8 := [42, 16, 26, 189, 0, 20, 89, 3, 18, 22, 83, 89, 4, 18, 24, 83, 89, 5, 18, 26, 83, 89, 6]
abbrev dktX1_init_1 : List UInt8 := dkwX1_init_1 ++ dktX1_init_2
def dkwX1_init_0 : List UInt8 := [42, 183, 0, 1, 42, 17, 3, 172, 188, 8, 181, 0, 9, 42, 187, 0, 13, 89, 183, 0, 15, 181, 0, 16]
abbrev dktX1_init_0 : List UInt8 := dkwX1_init_0 ++ dktX1_init_1
theorem dksX1_init_0 : cX1_init.data.toList.drop 0 = dktX1_init_0 := by decide +kernel
theorem dksX1_init_1 : cX1_init.data.toList.drop 24 = dktX1_init_1 := dk_seg dksX1_init_0 24 rfl rfl
theorem dksX1_init_2 : cX1_init.data.toList.drop 47 = dktX1_init_2 := dk_seg dksX1_init_1 23 rfl rfl
theorem dksX1_init_3 : cX1_init.data.toList.drop 71 = dktX1_init_3 := dk_seg dksX1_init_2 24 rfl rfl
theorem dksX1_init_4 : cX1_init.data.toList.drop 95 = dktX1_init_4 := dk_seg dksX1_init_3 24 rfl rfl
theorem dksX1_init_5 : cX1_init.data.toList.drop 119 = dktX1_init_5 := dk_seg dksX1_init_4 24 rfl rfl
theorem dksX1_init_6 : cX1_init.data.toList.drop 143 = dktX1_init_6 := dk_seg dksX1_init_5 24 rfl rfl
theorem dksX1_init_7 : cX1_init.data.toList.drop 167 = dktX1_init_7 := dk_seg dksX1_init_6 24 rfl rfl
theorem dksX1_init_8 : cX1_init.data.toList.drop 190 = dktX1_init_8 := dk_seg dksX1_init_7 23 rfl rfl
theorem dksX1_init_9 : cX1_init.data.toList.drop 213 = dktX1_init_9 := dk_seg dksX1_init_8 23 rfl rfl
theorem dksX1_init_10 : cX1_init.data.toList.drop 236 = dktX1_init_10 := dk_seg dksX1_init_9 23 rfl rfl
theorem dksX1_init_11 : cX1_init.data.toList.drop 260 = dktX1_init_11 := dk_seg dksX1_init_10 24 rfl rfl
theorem dksX1_init_12 : cX1_init.data.toList.drop 283 = dktX1_init_12 := dk_seg dksX1_init_11 23 rfl rfl
theorem dksX1_init_13 : cX1_init.data.toList.drop 306 = dktX1_init_13 := dk_seg dksX1_init_12 23 rfl rfl
theorem dksX1_init_14 : cX1_init.data.toList.drop 329 = dktX1_init_14 := dk_seg dksX1_init_13 23 rfl rfl
theorem dksX1_init_15 : cX1_init.data.toList.drop 353 = dktX1_init_15 := dk_seg dksX1_init_14 24 rfl rfl
theorem dksX1_init_16 : cX1_init.data.toList.drop 377 = dktX1_init_16 := dk_seg dksX1_init_15 24 rfl rfl
theorem dksX1_init_17 : cX1_init.data.toList.drop 400 = dktX1_init_17 := dk_seg dksX1_init_16 23 rfl rfl
theorem dksX1_init_18 : cX1_init.data.toList.drop 422 = dktX1_init_18 := dk_seg dksX1_init_17 22 rfl rfl
theorem dksX1_init_19 : cX1_init.data.toList.drop 445 = dktX1_init_19 := dk_seg dksX1_init_18 23 rfl rfl
theorem dksX1_init_20 : cX1_init.data.toList.drop 469 = dktX1_init_20 := dk_seg dksX1_init_19 24 rfl rfl
theorem dksX1_init_21 : cX1_init.data.toList.drop 493 = dktX1_init_21 := dk_seg dksX1_init_20 24 rfl rfl
theorem dX1_init_0 : decode cX1_init 0 = .ok (.aload_n 0, 1) := dk_42 (dk_at dksX1_init_0 0 rfl rfl)
theorem dX1_init_1 : decode cX1_init 1 = .ok (.invokespecial 1, 3) := dk_183 0 1 (dk_at dksX1_init_0 1 rfl rfl)
theorem dX1_init_4 : decode cX1_init 4 = .ok (.aload_n 0, 1) := dk_42 (dk_at dksX1_init_0 4 rfl rfl)
theorem dX1_init_5 : decode cX1_init 5 = .ok (.sipush 940, 3) := dk_17 3 172 (dk_at dksX1_init_0 5 rfl rfl)
theorem dX1_init_8 : decode cX1_init 8 = .ok (.newarray .byte, 2) := dk_188_8 (dk_at dksX1_init_0 8 rfl rfl)
theorem dX1_init_10 : decode cX1_init 10 = .ok (.putfield 9, 3) := dk_181 0 9 (dk_at dksX1_init_0 10 rfl rfl)
theorem dX1_init_13 : decode cX1_init 13 = .ok (.aload_n 0, 1) := dk_42 (dk_at dksX1_init_0 13 rfl rfl)
theorem dX1_init_14 : decode cX1_init 14 = .ok (.new 13, 3) := dk_187 0 13 (dk_at dksX1_init_0 14 rfl rfl)
theorem dX1_init_17 : decode cX1_init 17 = .ok (.dup, 1) := dk_89 (dk_at dksX1_init_0 17 rfl rfl)
theorem dX1_init_18 : decode cX1_init 18 = .ok (.invokespecial 15, 3) := dk_183 0 15 (dk_at dksX1_init_0 18 rfl rfl)
theorem dX1_init_21 : decode cX1_init 21 = .ok (.putfield 16, 3) := dk_181 0 16 (dk_at dksX1_init_0 21 rfl rfl)
theorem dX1_init_24 : decode cX1_init 24 = .ok (.aload_n 0, 1) := dk_42 (dk_at dksX1_init_1 0 rfl rfl)
theorem dX1_init_25 : decode cX1_init 25 = .ok (.bipush 26, 2) := dk_16 26 (dk_at dksX1_init_1 1 rfl rfl)
theorem dX1_init_27 : decode cX1_init 27 = .ok (.anewarray 20, 3) := dk_189 0 20 (dk_at dksX1_init_1 3 rfl rfl)
theorem dX1_init_30 : decode cX1_init 30 = .ok (.dup, 1) := dk_89 (dk_at dksX1_init_1 6 rfl rfl)
theorem dX1_init_31 : decode cX1_init 31 = .ok (.iconst 0, 1) := dk_3 (dk_at dksX1_init_1 7 rfl rfl)
theorem dX1_init_32 : decode cX1_init 32 = .ok (.ldc 22, 2) := dk_18 22 (dk_at dksX1_init_1 8 rfl rfl)
theorem dX1_init_34 : decode cX1_init 34 = .ok (.aastore, 1) := dk_83 (dk_at dksX1_init_1 10 rfl rfl)
theorem dX1_init_35 : decode cX1_init 35 = .ok (.dup, 1) := dk_89 (dk_at dksX1_init_1 11 rfl rfl)
theorem dX1_init_36 : decode cX1_init 36 = .ok (.iconst 1, 1) := dk_4 (dk_at dksX1_init_1 12 rfl rfl)
theorem dX1_init_37 : decode cX1_init 37 = .ok (.ldc 24, 2) := dk_18 24 (dk_at dksX1_init_1 13 rfl rfl)
theorem dX1_init_39 : decode cX1_init 39 = .ok (.aastore, 1) := dk_83 (dk_at dksX1_init_1 15 rfl rfl)
theorem dX1_init_40 : decode cX1_init 40 = .ok (.dup, 1) := dk_89 (dk_at dksX1_init_1 16 rfl rfl)
theorem dX1_init_41 : decode cX1_init 41 = .ok (.iconst 2, 1) := dk_5 (dk_at dksX1_init_1 17 rfl rfl)
theorem dX1_init_42 : decode cX1_init 42 = .ok (.ldc 26, 2) := dk_18 26 (dk_at dksX1_init_1 18 rfl rfl)
theorem dX1_init_44 : decode cX1_init 44 = .ok (.aastore, 1) := dk_83 (dk_at dksX1_init_1 20 rfl rfl)
theorem dX1_init_45 : decode cX1_init 45 = .ok (.dup, 1) := dk_89 (dk_at dksX1_init_1 21 rfl rfl)
theorem dX1_init_46 : decode cX1_init 46 = .ok (.iconst 3, 1) := dk_6 (dk_at dksX1_init_1 22 rfl rfl)
theorem dX1_init_47 : decode cX1_init 47 = .ok (.ldc 28, 2) := dk_18 28 (dk_at dksX1_init_2 0 rfl rfl)
theorem dX1_init_49 : decode cX1_init 49 = .ok (.aastore, 1) := dk_83 (dk_at dksX1_init_2 2 rfl rfl)
theorem dX1_init_50 : decode cX1_init 50 = .ok (.dup, 1) := dk_89 (dk_at dksX1_init_2 3 rfl rfl)
theorem dX1_init_51 : decode cX1_init 51 = .ok (.iconst 4, 1) := dk_7 (dk_at dksX1_init_2 4 rfl rfl)
theorem dX1_init_52 : decode cX1_init 52 = .ok (.ldc 30, 2) := dk_18 30 (dk_at dksX1_init_2 5 rfl rfl)
theorem dX1_init_54 : decode cX1_init 54 = .ok (.aastore, 1) := dk_83 (dk_at dksX1_init_2 7 rfl rfl)
theorem dX1_init_55 : decode cX1_init 55 = .ok (.dup, 1) := dk_89 (dk_at dksX1_init_2 8 rfl rfl)
theorem dX1_init_56 : decode cX1_init 56 = .ok (.iconst 5, 1) := dk_8 (dk_at dksX1_init_2 9 rfl rfl)
theorem dX1_init_57 : decode cX1_init 57 = .ok (.ldc 32, 2) := dk_18 32 (dk_at dksX1_init_2 10 rfl rfl)
theorem dX1_init_59 : decode cX1_init 59 = .ok (.aastore, 1) := dk_83 (dk_at dksX1_init_2 12 rfl rfl)
theorem dX1_init_60 : decode cX1_init 60 = .ok (.dup, 1) := dk_89 (dk_at dksX1_init_2 13 rfl rfl)
theorem dX1_init_61 : decode cX1_init 61 = .ok (.bipush 6, 2) := dk_16 6 (dk_at dksX1_init_2 14 rfl rfl)
theorem dX1_init_63 : decode cX1_init 63 = .ok (.ldc 34, 2) := dk_18 34 (dk_at dksX1_init_2 16 rfl rfl)
theorem dX1_init_65 : decode cX1_init 65 = .ok (.aastore, 1) := dk_83 (dk_at dksX1_init_2 18 rfl rfl)
theorem dX1_init_66 : decode cX1_init 66 = .ok (.dup, 1) := dk_89 (dk_at dksX1_init_2 19 rfl rfl)
theorem dX1_init_67 : decode cX1_init 67 = .ok (.bipush 7, 2) := dk_16 7 (dk_at dksX1_init_2 20 rfl rfl)
theorem dX1_init_69 : decode cX1_init 69 = .ok (.ldc 36, 2) := dk_18 36 (dk_at dksX1_init_2 22 rfl rfl)
theorem dX1_init_71 : decode cX1_init 71 = .ok (.aastore, 1) := dk_83 (dk_at dksX1_init_3 0 rfl rfl)
theorem dX1_init_72 : decode cX1_init 72 = .ok (.dup, 1) := dk_89 (dk_at dksX1_init_3 1 rfl rfl)
theorem dX1_init_73 : decode cX1_init 73 = .ok (.bipush 8, 2) := dk_16 8 (dk_at dksX1_init_3 2 rfl rfl)
theorem dX1_init_75 : decode cX1_init 75 = .ok (.ldc 38, 2) := dk_18 38 (dk_at dksX1_init_3 4 rfl rfl)
theorem dX1_init_77 : decode cX1_init 77 = .ok (.aastore, 1) := dk_83 (dk_at dksX1_init_3 6 rfl rfl)
theorem dX1_init_78 : decode cX1_init 78 = .ok (.dup, 1) := dk_89 (dk_at dksX1_init_3 7 rfl rfl)
theorem dX1_init_79 : decode cX1_init 79 = .ok (.bipush 9, 2) := dk_16 9 (dk_at dksX1_init_3 8 rfl rfl)
theorem dX1_init_81 : decode cX1_init 81 = .ok (.ldc 40, 2) := dk_18 40 (dk_at dksX1_init_3 10 rfl rfl)
theorem dX1_init_83 : decode cX1_init 83 = .ok (.aastore, 1) := dk_83 (dk_at dksX1_init_3 12 rfl rfl)
theorem dX1_init_84 : decode cX1_init 84 = .ok (.dup, 1) := dk_89 (dk_at dksX1_init_3 13 rfl rfl)
theorem dX1_init_85 : decode cX1_init 85 = .ok (.bipush 10, 2) := dk_16 10 (dk_at dksX1_init_3 14 rfl rfl)
theorem dX1_init_87 : decode cX1_init 87 = .ok (.ldc 42, 2) := dk_18 42 (dk_at dksX1_init_3 16 rfl rfl)
theorem dX1_init_89 : decode cX1_init 89 = .ok (.aastore, 1) := dk_83 (dk_at dksX1_init_3 18 rfl rfl)
theorem dX1_init_90 : decode cX1_init 90 = .ok (.dup, 1) := dk_89 (dk_at dksX1_init_3 19 rfl rfl)
theorem dX1_init_91 : decode cX1_init 91 = .ok (.bipush 11, 2) := dk_16 11 (dk_at dksX1_init_3 20 rfl rfl)
theorem dX1_init_93 : decode cX1_init 93 = .ok (.ldc 44, 2) := dk_18 44 (dk_at dksX1_init_3 22 rfl rfl)
theorem dX1_init_95 : decode cX1_init 95 = .ok (.aastore, 1) := dk_83 (dk_at dksX1_init_4 0 rfl rfl)
theorem dX1_init_96 : decode cX1_init 96 = .ok (.dup, 1) := dk_89 (dk_at dksX1_init_4 1 rfl rfl)
theorem dX1_init_97 : decode cX1_init 97 = .ok (.bipush 12, 2) := dk_16 12 (dk_at dksX1_init_4 2 rfl rfl)
theorem dX1_init_99 : decode cX1_init 99 = .ok (.ldc 46, 2) := dk_18 46 (dk_at dksX1_init_4 4 rfl rfl)
theorem dX1_init_101 : decode cX1_init 101 = .ok (.aastore, 1) := dk_83 (dk_at dksX1_init_4 6 rfl rfl)
theorem dX1_init_102 : decode cX1_init 102 = .ok (.dup, 1) := dk_89 (dk_at dksX1_init_4 7 rfl rfl)
theorem dX1_init_103 : decode cX1_init 103 = .ok (.bipush 13, 2) := dk_16 13 (dk_at dksX1_init_4 8 rfl rfl)
theorem dX1_init_105 : decode cX1_init 105 = .ok (.ldc 48, 2) := dk_18 48 (dk_at dksX1_init_4 10 rfl rfl)
theorem dX1_init_107 : decode cX1_init 107 = .ok (.aastore, 1) := dk_83 (dk_at dksX1_init_4 12 rfl rfl)
theorem dX1_init_108 : decode cX1_init 108 = .ok (.dup, 1) := dk_89 (dk_at dksX1_init_4 13 rfl rfl)
theorem dX1_init_109 : decode cX1_init 109 = .ok (.bipush 14, 2) := dk_16 14 (dk_at dksX1_init_4 14 rfl rfl)
theorem dX1_init_111 : decode cX1_init 111 = .ok (.ldc 50, 2) := dk_18 50 (dk_at dksX1_init_4 16 rfl rfl)
theorem dX1_init_113 : decode cX1_init 113 = .ok (.aastore, 1) := dk_83 (dk_at dksX1_init_4 18 rfl rfl)
theorem dX1_init_114 : decode cX1_init 114 = .ok (.dup, 1) := dk_89 (dk_at dksX1_init_4 19 rfl rfl)
theorem dX1_init_115 : decode cX1_init 115 = .ok (.bipush 15, 2) := dk_16 15 (dk_at dksX1_init_4 20 rfl rfl)
theorem dX1_init_117 : decode cX1_init 117 = .ok (.ldc 52, 2) := dk_18 52 (dk_at dksX1_init_4 22 rfl rfl)
theorem dX1_init_119 : decode cX1_init 119 = .ok (.aastore, 1) := dk_83 (dk_at dksX1_init_5 0 rfl rfl)
theorem dX1_init_120 : decode cX1_init 120 = .ok (.dup, 1) := dk_89 (dk_at dksX1_init_5 1 rfl rfl)
theorem dX1_init_121 : decode cX1_init 121 = .ok (.bipush 16, 2) := dk_16 16 (dk_at dksX1_init_5 2 rfl rfl)
theorem dX1_init_123 : decode cX1_init 123 = .ok (.ldc 54, 2) := dk_18 54 (dk_at dksX1_init_5 4 rfl rfl)
theorem dX1_init_125 : decode cX1_init 125 = .ok (.aastore, 1) := dk_83 (dk_at dksX1_init_5 6 rfl rfl)
theorem dX1_init_126 : decode cX1_init 126 = .ok (.dup, 1) := dk_89 (dk_at dksX1_init_5 7 rfl rfl)
theorem dX1_init_127 : decode cX1_init 127 = .ok (.bipush 17, 2) := dk_16 17 (dk_at dksX1_init_5 8 rfl rfl)
theorem dX1_init_129 : decode cX1_init 129 = .ok (.ldc 56, 2) := dk_18 56 (dk_at dksX1_init_5 10 rfl rfl)
theorem dX1_init_131 : decode cX1_init 131 = .ok (.aastore, 1) := dk_83 (dk_at dksX1_init_5 12 rfl rfl)
theorem dX1_init_132 : decode cX1_init 132 = .ok (.dup, 1) := dk_89 (dk_at dksX1_init_5 13 rfl rfl)
theorem dX1_init_133 : decode cX1_init 133 = .ok (.bipush 18, 2) := dk_16 18 (dk_at dksX1_init_5 14 rfl rfl)
theorem dX1_init_135 : decode cX1_init 135 = .ok (.ldc 58, 2) := dk_18 58 (dk_at dksX1_init_5 16 rfl rfl)
theorem dX1_init_137 : decode cX1_init 137 = .ok (.aastore, 1) := dk_83 (dk_at dksX1_init_5 18 rfl rfl)
theorem dX1_init_138 : decode cX1_init 138 = .ok (.dup, 1) := dk_89 (dk_at dksX1_init_5 19 rfl rfl)
theorem dX1_init_139 : decode cX1_init 139 = .ok (.bipush 19, 2) := dk_16 19 (dk_at dksX1_init_5 20 rfl rfl)
theorem dX1_init_141 : decode cX1_init 141 = .ok (.ldc 60, 2) := dk_18 60 (dk_at dksX1_init_5 22 rfl rfl)
theorem dX1_init_143 : decode cX1_init 143 = .ok (.aastore, 1) := dk_83 (dk_at dksX1_init_6 0 rfl rfl)
theorem dX1_init_144 : decode cX1_init 144 = .ok (.dup, 1) := dk_89 (dk_at dksX1_init_6 1 rfl rfl)
theorem dX1_init_145 : decode cX1_init 145 = .ok (.bipush 20, 2) := dk_16 20 (dk_at dksX1_init_6 2 rfl rfl)
theorem dX1_init_147 : decode cX1_init 147 = .ok (.ldc 62, 2) := dk_18 62 (dk_at dksX1_init_6 4 rfl rfl)
theorem dX1_init_149 : decode cX1_init 149 = .ok (.aastore, 1) := dk_83 (dk_at dksX1_init_6 6 rfl rfl)
theorem dX1_init_150 : decode cX1_init 150 = .ok (.dup, 1) := dk_89 (dk_at dksX1_init_6 7 rfl rfl)
theorem dX1_init_151 : decode cX1_init 151 = .ok (.bipush 21, 2) := dk_16 21 (dk_at dksX1_init_6 8 rfl rfl)
theorem dX1_init_153 : decode cX1_init 153 = .ok (.ldc 64, 2) := dk_18 64 (dk_at dksX1_init_6 10 rfl rfl)
theorem dX1_init_155 : decode cX1_init 155 = .ok (.aastore, 1) := dk_83 (dk_at dksX1_init_6 12 rfl rfl)
theorem dX1_init_156 : decode cX1_init 156 = .ok (.dup, 1) := dk_89 (dk_at dksX1_init_6 13 rfl rfl)
theorem dX1_init_157 : decode cX1_init 157 = .ok (.bipush 22, 2) := dk_16 22 (dk_at dksX1_init_6 14 rfl rfl)
theorem dX1_init_159 : decode cX1_init 159 = .ok (.ldc 66, 2) := dk_18 66 (dk_at dksX1_init_6 16 rfl rfl)
theorem dX1_init_161 : decode cX1_init 161 = .ok (.aastore, 1) := dk_83 (dk_at dksX1_init_6 18 rfl rfl)
theorem dX1_init_162 : decode cX1_init 162 = .ok (.dup, 1) := dk_89 (dk_at dksX1_init_6 19 rfl rfl)
theorem dX1_init_163 : decode cX1_init 163 = .ok (.bipush 23, 2) := dk_16 23 (dk_at dksX1_init_6 20 rfl rfl)
theorem dX1_init_165 : decode cX1_init 165 = .ok (.ldc 68, 2) := dk_18 68 (dk_at dksX1_init_6 22 rfl rfl)
theorem dX1_init_167 : decode cX1_init 167 = .ok (.aastore, 1) := dk_83 (dk_at dksX1_init_7 0 rfl rfl)
theorem dX1_init_168 : decode cX1_init 168 = .ok (.dup, 1) := dk_89 (dk_at dksX1_init_7 1 rfl rfl)
theorem dX1_init_169 : decode cX1_init 169 = .ok (.bipush 24, 2) := dk_16 24 (dk_at dksX1_init_7 2 rfl rfl)
theorem dX1_init_171 : decode cX1_init 171 = .ok (.ldc 70, 2) := dk_18 70 (dk_at dksX1_init_7 4 rfl rfl)
theorem dX1_init_173 : decode cX1_init 173 = .ok (.aastore, 1) := dk_83 (dk_at dksX1_init_7 6 rfl rfl)
theorem dX1_init_174 : decode cX1_init 174 = .ok (.dup, 1) := dk_89 (dk_at dksX1_init_7 7 rfl rfl)
theorem dX1_init_175 : decode cX1_init 175 = .ok (.bipush 25, 2) := dk_16 25 (dk_at dksX1_init_7 8 rfl rfl)
theorem dX1_init_177 : decode cX1_init 177 = .ok (.ldc 72, 2) := dk_18 72 (dk_at dksX1_init_7 10 rfl rfl)
theorem dX1_init_179 : decode cX1_init 179 = .ok (.aastore, 1) := dk_83 (dk_at dksX1_init_7 12 rfl rfl)
theorem dX1_init_180 : decode cX1_init 180 = .ok (.putfield 74, 3) := dk_181 0 74 (dk_at dksX1_init_7 13 rfl rfl)
theorem dX1_init_183 : decode cX1_init 183 = .ok (.aload_n 0, 1) := dk_42 (dk_at dksX1_init_7 16 rfl rfl)
theorem dX1_init_184 : decode cX1_init 184 = .ok (.iconst 4, 1) := dk_7 (dk_at dksX1_init_7 17 rfl rfl)
theorem dX1_init_185 : decode cX1_init 185 = .ok (.anewarray 20, 3) := dk_189 0 20 (dk_at dksX1_init_7 18 rfl rfl)
theorem dX1_init_188 : decode cX1_init 188 = .ok (.dup, 1) := dk_89 (dk_at dksX1_init_7 21 rfl rfl)
theorem dX1_init_189 : decode cX1_init 189 = .ok (.iconst 0, 1) := dk_3 (dk_at dksX1_init_7 22 rfl rfl)
theorem dX1_init_190 : decode cX1_init 190 = .ok (.ldc 22, 2) := dk_18 22 (dk_at dksX1_init_8 0 rfl rfl)
theorem dX1_init_192 : decode cX1_init 192 = .ok (.aastore, 1) := dk_83 (dk_at dksX1_init_8 2 rfl rfl)
theorem dX1_init_193 : decode cX1_init 193 = .ok (.dup, 1) := dk_89 (dk_at dksX1_init_8 3 rfl rfl)
theorem dX1_init_194 : decode cX1_init 194 = .ok (.iconst 1, 1) := dk_4 (dk_at dksX1_init_8 4 rfl rfl)
theorem dX1_init_195 : decode cX1_init 195 = .ok (.ldc 24, 2) := dk_18 24 (dk_at dksX1_init_8 5 rfl rfl)
theorem dX1_init_197 : decode cX1_init 197 = .ok (.aastore, 1) := dk_83 (dk_at dksX1_init_8 7 rfl rfl)
theorem dX1_init_198 : decode cX1_init 198 = .ok (.dup, 1) := dk_89 (dk_at dksX1_init_8 8 rfl rfl)
theorem dX1_init_199 : decode cX1_init 199 = .ok (.iconst 2, 1) := dk_5 (dk_at dksX1_init_8 9 rfl rfl)
theorem dX1_init_200 : decode cX1_init 200 = .ok (.ldc 26, 2) := dk_18 26 (dk_at dksX1_init_8 10 rfl rfl)
theorem dX1_init_202 : decode cX1_init 202 = .ok (.aastore, 1) := dk_83 (dk_at dksX1_init_8 12 rfl rfl)
theorem dX1_init_203 : decode cX1_init 203 = .ok (.dup, 1) := dk_89 (dk_at dksX1_init_8 13 rfl rfl)
theorem dX1_init_204 : decode cX1_init 204 = .ok (.iconst 3, 1) := dk_6 (dk_at dksX1_init_8 14 rfl rfl)
theorem dX1_init_205 : decode cX1_init 205 = .ok (.ldc 28, 2) := dk_18 28 (dk_at dksX1_init_8 15 rfl rfl)
theorem dX1_init_207 : decode cX1_init 207 = .ok (.aastore, 1) := dk_83 (dk_at dksX1_init_8 17 rfl rfl)
theorem dX1_init_208 : decode cX1_init 208 = .ok (.putfield 78, 3) := dk_181 0 78 (dk_at dksX1_init_8 18 rfl rfl)
theorem dX1_init_211 : decode cX1_init 211 = .ok (.aload_n 0, 1) := dk_42 (dk_at dksX1_init_8 21 rfl rfl)
theorem dX1_init_212 : decode cX1_init 212 = .ok (.iconst 4, 1) := dk_7 (dk_at dksX1_init_8 22 rfl rfl)
theorem dX1_init_213 : decode cX1_init 213 = .ok (.anewarray 20, 3) := dk_189 0 20 (dk_at dksX1_init_9 0 rfl rfl)
theorem dX1_init_216 : decode cX1_init 216 = .ok (.dup, 1) := dk_89 (dk_at dksX1_init_9 3 rfl rfl)
theorem dX1_init_217 : decode cX1_init 217 = .ok (.iconst 0, 1) := dk_3 (dk_at dksX1_init_9 4 rfl rfl)
theorem dX1_init_218 : decode cX1_init 218 = .ok (.ldc 48, 2) := dk_18 48 (dk_at dksX1_init_9 5 rfl rfl)
theorem dX1_init_220 : decode cX1_init 220 = .ok (.aastore, 1) := dk_83 (dk_at dksX1_init_9 7 rfl rfl)
theorem dX1_init_221 : decode cX1_init 221 = .ok (.dup, 1) := dk_89 (dk_at dksX1_init_9 8 rfl rfl)
theorem dX1_init_222 : decode cX1_init 222 = .ok (.iconst 1, 1) := dk_4 (dk_at dksX1_init_9 9 rfl rfl)
theorem dX1_init_223 : decode cX1_init 223 = .ok (.ldc 50, 2) := dk_18 50 (dk_at dksX1_init_9 10 rfl rfl)
theorem dX1_init_225 : decode cX1_init 225 = .ok (.aastore, 1) := dk_83 (dk_at dksX1_init_9 12 rfl rfl)
theorem dX1_init_226 : decode cX1_init 226 = .ok (.dup, 1) := dk_89 (dk_at dksX1_init_9 13 rfl rfl)
theorem dX1_init_227 : decode cX1_init 227 = .ok (.iconst 2, 1) := dk_5 (dk_at dksX1_init_9 14 rfl rfl)
theorem dX1_init_228 : decode cX1_init 228 = .ok (.ldc 52, 2) := dk_18 52 (dk_at dksX1_init_9 15 rfl rfl)
theorem dX1_init_230 : decode cX1_init 230 = .ok (.aastore, 1) := dk_83 (dk_at dksX1_init_9 17 rfl rfl)
theorem dX1_init_231 : decode cX1_init 231 = .ok (.dup, 1) := dk_89 (dk_at dksX1_init_9 18 rfl rfl)
theorem dX1_init_232 : decode cX1_init 232 = .ok (.iconst 3, 1) := dk_6 (dk_at dksX1_init_9 19 rfl rfl)
theorem dX1_init_233 : decode cX1_init 233 = .ok (.ldc 54, 2) := dk_18 54 (dk_at dksX1_init_9 20 rfl rfl)
theorem dX1_init_235 : decode cX1_init 235 = .ok (.aastore, 1) := dk_83 (dk_at dksX1_init_9 22 rfl rfl)
theorem dX1_init_236 : decode cX1_init 236 = .ok (.putfield 81, 3) := dk_181 0 81 (dk_at dksX1_init_10 0 rfl rfl)
theorem dX1_init_239 : decode cX1_init 239 = .ok (.aload_n 0, 1) := dk_42 (dk_at dksX1_init_10 3 rfl rfl)
theorem dX1_init_240 : decode cX1_init 240 = .ok (.iconst 4, 1) := dk_7 (dk_at dksX1_init_10 4 rfl rfl)
theorem dX1_init_241 : decode cX1_init 241 = .ok (.anewarray 20, 3) := dk_189 0 20 (dk_at dksX1_init_10 5 rfl rfl)
theorem dX1_init_244 : decode cX1_init 244 = .ok (.dup, 1) := dk_89 (dk_at dksX1_init_10 8 rfl rfl)
theorem dX1_init_245 : decode cX1_init 245 = .ok (.iconst 0, 1) := dk_3 (dk_at dksX1_init_10 9 rfl rfl)
theorem dX1_init_246 : decode cX1_init 246 = .ok (.ldc 40, 2) := dk_18 40 (dk_at dksX1_init_10 10 rfl rfl)
theorem dX1_init_248 : decode cX1_init 248 = .ok (.aastore, 1) := dk_83 (dk_at dksX1_init_10 12 rfl rfl)
theorem dX1_init_249 : decode cX1_init 249 = .ok (.dup, 1) := dk_89 (dk_at dksX1_init_10 13 rfl rfl)
theorem dX1_init_250 : decode cX1_init 250 = .ok (.iconst 1, 1) := dk_4 (dk_at dksX1_init_10 14 rfl rfl)
theorem dX1_init_251 : decode cX1_init 251 = .ok (.ldc 42, 2) := dk_18 42 (dk_at dksX1_init_10 15 rfl rfl)
theorem dX1_init_253 : decode cX1_init 253 = .ok (.aastore, 1) := dk_83 (dk_at dksX1_init_10 17 rfl rfl)
theorem dX1_init_254 : decode cX1_init 254 = .ok (.dup, 1) := dk_89 (dk_at dksX1_init_10 18 rfl rfl)
theorem dX1_init_255 : decode cX1_init 255 = .ok (.iconst 2, 1) := dk_5 (dk_at dksX1_init_10 19 rfl rfl)
theorem dX1_init_256 : decode cX1_init 256 = .ok (.ldc 44, 2) := dk_18 44 (dk_at dksX1_init_10 20 rfl rfl)
theorem dX1_init_258 : decode cX1_init 258 = .ok (.aastore, 1) := dk_83 (dk_at dksX1_init_10 22 rfl rfl)
theorem dX1_init_259 : decode cX1_init 259 = .ok (.dup, 1) := dk_89 (dk_at dksX1_init_10 23 rfl rfl)
theorem dX1_init_260 : decode cX1_init 260 = .ok (.iconst 3, 1) := dk_6 (dk_at dksX1_init_11 0 rfl rfl)
theorem dX1_init_261 : decode cX1_init 261 = .ok (.ldc 46, 2) := dk_18 46 (dk_at dksX1_init_11 1 rfl rfl)
theorem dX1_init_263 : decode cX1_init 263 = .ok (.aastore, 1) := dk_83 (dk_at dksX1_init_11 3 rfl rfl)
theorem dX1_init_264 : decode cX1_init 264 = .ok (.putfield 84, 3) := dk_181 0 84 (dk_at dksX1_init_11 4 rfl rfl)
theorem dX1_init_267 : decode cX1_init 267 = .ok (.aload_n 0, 1) := dk_42 (dk_at dksX1_init_11 7 rfl rfl)
theorem dX1_init_268 : decode cX1_init 268 = .ok (.new 87, 3) := dk_187 0 87 (dk_at dksX1_init_11 8 rfl rfl)
theorem dX1_init_271 : decode cX1_init 271 = .ok (.dup, 1) := dk_89 (dk_at dksX1_init_11 11 rfl rfl)
theorem dX1_init_272 : decode cX1_init 272 = .ok (.invokespecial 89, 3) := dk_183 0 89 (dk_at dksX1_init_11 12 rfl rfl)
theorem dX1_init_275 : decode cX1_init 275 = .ok (.putfield 90, 3) := dk_181 0 90 (dk_at dksX1_init_11 15 rfl rfl)
theorem dX1_init_278 : decode cX1_init 278 = .ok (.aload_n 0, 1) := dk_42 (dk_at dksX1_init_11 18 rfl rfl)
theorem dX1_init_279 : decode cX1_init 279 = .ok (.new 87, 3) := dk_187 0 87 (dk_at dksX1_init_11 19 rfl rfl)
theorem dX1_init_282 : decode cX1_init 282 = .ok (.dup, 1) := dk_89 (dk_at dksX1_init_11 22 rfl rfl)
theorem dX1_init_283 : decode cX1_init 283 = .ok (.invokespecial 89, 3) := dk_183 0 89 (dk_at dksX1_init_12 0 rfl rfl)
theorem dX1_init_286 : decode cX1_init 286 = .ok (.putfield 94, 3) := dk_181 0 94 (dk_at dksX1_init_12 3 rfl rfl)
theorem dX1_init_289 : decode cX1_init 289 = .ok (.aload_n 0, 1) := dk_42 (dk_at dksX1_init_12 6 rfl rfl)
theorem dX1_init_290 : decode cX1_init 290 = .ok (.new 97, 3) := dk_187 0 97 (dk_at dksX1_init_12 7 rfl rfl)
theorem dX1_init_293 : decode cX1_init 293 = .ok (.dup, 1) := dk_89 (dk_at dksX1_init_12 10 rfl rfl)
theorem dX1_init_294 : decode cX1_init 294 = .ok (.invokespecial 99, 3) := dk_183 0 99 (dk_at dksX1_init_12 11 rfl rfl)
theorem dX1_init_297 : decode cX1_init 297 = .ok (.putfield 100, 3) := dk_181 0 100 (dk_at dksX1_init_12 14 rfl rfl)
theorem dX1_init_300 : decode cX1_init 300 = .ok (.aload_n 0, 1) := dk_42 (dk_at dksX1_init_12 17 rfl rfl)
theorem dX1_init_301 : decode cX1_init 301 = .ok (.new 104, 3) := dk_187 0 104 (dk_at dksX1_init_12 18 rfl rfl)
theorem dX1_init_304 : decode cX1_init 304 = .ok (.dup, 1) := dk_89 (dk_at dksX1_init_12 21 rfl rfl)
theorem dX1_init_305 : decode cX1_init 305 = .ok (.aload_n 0, 1) := dk_42 (dk_at dksX1_init_12 22 rfl rfl)
theorem dX1_init_306 : decode cX1_init 306 = .ok (.invokespecial 106, 3) := dk_183 0 106 (dk_at dksX1_init_13 0 rfl rfl)
theorem dX1_init_309 : decode cX1_init 309 = .ok (.putfield 109, 3) := dk_181 0 109 (dk_at dksX1_init_13 3 rfl rfl)
theorem dX1_init_312 : decode cX1_init 312 = .ok (.aload_n 0, 1) := dk_42 (dk_at dksX1_init_13 6 rfl rfl)
theorem dX1_init_313 : decode cX1_init 313 = .ok (.new 113, 3) := dk_187 0 113 (dk_at dksX1_init_13 7 rfl rfl)
theorem dX1_init_316 : decode cX1_init 316 = .ok (.dup, 1) := dk_89 (dk_at dksX1_init_13 10 rfl rfl)
theorem dX1_init_317 : decode cX1_init 317 = .ok (.aload_n 0, 1) := dk_42 (dk_at dksX1_init_13 11 rfl rfl)
theorem dX1_init_318 : decode cX1_init 318 = .ok (.invokespecial 115, 3) := dk_183 0 115 (dk_at dksX1_init_13 12 rfl rfl)
theorem dX1_init_321 : decode cX1_init 321 = .ok (.putfield 116, 3) := dk_181 0 116 (dk_at dksX1_init_13 15 rfl rfl)
theorem dX1_init_324 : decode cX1_init 324 = .ok (.aload_n 0, 1) := dk_42 (dk_at dksX1_init_13 18 rfl rfl)
theorem dX1_init_325 : decode cX1_init 325 = .ok (.bipush 10, 2) := dk_16 10 (dk_at dksX1_init_13 19 rfl rfl)
theorem dX1_init_327 : decode cX1_init 327 = .ok (.newarray .int, 2) := dk_188_10 (dk_at dksX1_init_13 21 rfl rfl)
theorem dX1_init_329 : decode cX1_init 329 = .ok (.putfield 120, 3) := dk_181 0 120 (dk_at dksX1_init_14 0 rfl rfl)
theorem dX1_init_332 : decode cX1_init 332 = .ok (.aload_n 0, 1) := dk_42 (dk_at dksX1_init_14 3 rfl rfl)
theorem dX1_init_333 : decode cX1_init 333 = .ok (.bipush 10, 2) := dk_16 10 (dk_at dksX1_init_14 4 rfl rfl)
theorem dX1_init_335 : decode cX1_init 335 = .ok (.newarray .int, 2) := dk_188_10 (dk_at dksX1_init_14 6 rfl rfl)
theorem dX1_init_337 : decode cX1_init 337 = .ok (.putfield 124, 3) := dk_181 0 124 (dk_at dksX1_init_14 8 rfl rfl)
theorem dX1_init_340 : decode cX1_init 340 = .ok (.aload_n 0, 1) := dk_42 (dk_at dksX1_init_14 11 rfl rfl)
theorem dX1_init_341 : decode cX1_init 341 = .ok (.bipush 10, 2) := dk_16 10 (dk_at dksX1_init_14 12 rfl rfl)
theorem dX1_init_343 : decode cX1_init 343 = .ok (.newarray .int, 2) := dk_188_10 (dk_at dksX1_init_14 14 rfl rfl)
theorem dX1_init_345 : decode cX1_init 345 = .ok (.putfield 127, 3) := dk_181 0 127 (dk_at dksX1_init_14 16 rfl rfl)
theorem dX1_init_348 : decode cX1_init 348 = .ok (.aload_n 0, 1) := dk_42 (dk_at dksX1_init_14 19 rfl rfl)
theorem dX1_init_349 : decode cX1_init 349 = .ok (.bipush 10, 2) := dk_16 10 (dk_at dksX1_init_14 20 rfl rfl)
theorem dX1_init_351 : decode cX1_init 351 = .ok (.newarray .int, 2) := dk_188_10 (dk_at dksX1_init_14 22 rfl rfl)
theorem dX1_init_353 : decode cX1_init 353 = .ok (.putfield 130, 3) := dk_181 0 130 (dk_at dksX1_init_15 0 rfl rfl)
theorem dX1_init_356 : decode cX1_init 356 = .ok (.aload_n 0, 1) := dk_42 (dk_at dksX1_init_15 3 rfl rfl)
theorem dX1_init_357 : decode cX1_init 357 = .ok (.bipush 10, 2) := dk_16 10 (dk_at dksX1_init_15 4 rfl rfl)
theorem dX1_init_359 : decode cX1_init 359 = .ok (.newarray .int, 2) := dk_188_10 (dk_at dksX1_init_15 6 rfl rfl)
theorem dX1_init_361 : decode cX1_init 361 = .ok (.putfield 133, 3) := dk_181 0 133 (dk_at dksX1_init_15 8 rfl rfl)
theorem dX1_init_364 : decode cX1_init 364 = .ok (.aload_n 0, 1) := dk_42 (dk_at dksX1_init_15 11 rfl rfl)
theorem dX1_init_365 : decode cX1_init 365 = .ok (.bipush 10, 2) := dk_16 10 (dk_at dksX1_init_15 12 rfl rfl)
theorem dX1_init_367 : decode cX1_init 367 = .ok (.newarray .int, 2) := dk_188_10 (dk_at dksX1_init_15 14 rfl rfl)
theorem dX1_init_369 : decode cX1_init 369 = .ok (.putfield 136, 3) := dk_181 0 136 (dk_at dksX1_init_15 16 rfl rfl)
theorem dX1_init_372 : decode cX1_init 372 = .ok (.aload_n 0, 1) := dk_42 (dk_at dksX1_init_15 19 rfl rfl)
theorem dX1_init_373 : decode cX1_init 373 = .ok (.bipush 10, 2) := dk_16 10 (dk_at dksX1_init_15 20 rfl rfl)
theorem dX1_init_375 : decode cX1_init 375 = .ok (.newarray .int, 2) := dk_188_10 (dk_at dksX1_init_15 22 rfl rfl)
theorem dX1_init_377 : decode cX1_init 377 = .ok (.putfield 139, 3) := dk_181 0 139 (dk_at dksX1_init_16 0 rfl rfl)
theorem dX1_init_380 : decode cX1_init 380 = .ok (.aload_n 0, 1) := dk_42 (dk_at dksX1_init_16 3 rfl rfl)
theorem dX1_init_381 : decode cX1_init 381 = .ok (.bipush 10, 2) := dk_16 10 (dk_at dksX1_init_16 4 rfl rfl)
theorem dX1_init_383 : decode cX1_init 383 = .ok (.newarray .int, 2) := dk_188_10 (dk_at dksX1_init_16 6 rfl rfl)
theorem dX1_init_385 : decode cX1_init 385 = .ok (.putfield 142, 3) := dk_181 0 142 (dk_at dksX1_init_16 8 rfl rfl)
theorem dX1_init_388 : decode cX1_init 388 = .ok (.aload_n 0, 1) := dk_42 (dk_at dksX1_init_16 11 rfl rfl)
theorem dX1_init_389 : decode cX1_init 389 = .ok (.bipush 10, 2) := dk_16 10 (dk_at dksX1_init_16 12 rfl rfl)
theorem dX1_init_391 : decode cX1_init 391 = .ok (.newarray .int, 2) := dk_188_10 (dk_at dksX1_init_16 14 rfl rfl)
theorem dX1_init_393 : decode cX1_init 393 = .ok (.putfield 145, 3) := dk_181 0 145 (dk_at dksX1_init_16 16 rfl rfl)
theorem dX1_init_396 : decode cX1_init 396 = .ok (.aload_n 0, 1) := dk_42 (dk_at dksX1_init_16 19 rfl rfl)
theorem dX1_init_397 : decode cX1_init 397 = .ok (.sipush 1024, 3) := dk_17 4 0 (dk_at dksX1_init_16 20 rfl rfl)
theorem dX1_init_400 : decode cX1_init 400 = .ok (.newarray .int, 2) := dk_188_10 (dk_at dksX1_init_17 0 rfl rfl)
theorem dX1_init_402 : decode cX1_init 402 = .ok (.putfield 148, 3) := dk_181 0 148 (dk_at dksX1_init_17 2 rfl rfl)
theorem dX1_init_405 : decode cX1_init 405 = .ok (.aload_n 0, 1) := dk_42 (dk_at dksX1_init_17 5 rfl rfl)
theorem dX1_init_406 : decode cX1_init 406 = .ok (.sipush 1024, 3) := dk_17 4 0 (dk_at dksX1_init_17 6 rfl rfl)
theorem dX1_init_409 : decode cX1_init 409 = .ok (.newarray .int, 2) := dk_188_10 (dk_at dksX1_init_17 9 rfl rfl)
theorem dX1_init_411 : decode cX1_init 411 = .ok (.putfield 151, 3) := dk_181 0 151 (dk_at dksX1_init_17 11 rfl rfl)
theorem dX1_init_414 : decode cX1_init 414 = .ok (.aload_n 0, 1) := dk_42 (dk_at dksX1_init_17 14 rfl rfl)
theorem dX1_init_415 : decode cX1_init 415 = .ok (.iconst 5, 1) := dk_8 (dk_at dksX1_init_17 15 rfl rfl)
theorem dX1_init_416 : decode cX1_init 416 = .ok (.newarray .int, 2) := dk_188_10 (dk_at dksX1_init_17 16 rfl rfl)
theorem dX1_init_418 : decode cX1_init 418 = .ok (.putfield 154, 3) := dk_181 0 154 (dk_at dksX1_init_17 18 rfl rfl)
theorem dX1_init_421 : decode cX1_init 421 = .ok (.aload_n 0, 1) := dk_42 (dk_at dksX1_init_17 21 rfl rfl)
theorem dX1_init_422 : decode cX1_init 422 = .ok (.sipush 24300, 3) := dk_17 94 236 (dk_at dksX1_init_18 0 rfl rfl)
theorem dX1_init_425 : decode cX1_init 425 = .ok (.newarray .int, 2) := dk_188_10 (dk_at dksX1_init_18 3 rfl rfl)
theorem dX1_init_427 : decode cX1_init 427 = .ok (.putfield 157, 3) := dk_181 0 157 (dk_at dksX1_init_18 5 rfl rfl)
theorem dX1_init_430 : decode cX1_init 430 = .ok (.aload_n 0, 1) := dk_42 (dk_at dksX1_init_18 8 rfl rfl)
theorem dX1_init_431 : decode cX1_init 431 = .ok (.sipush 24300, 3) := dk_17 94 236 (dk_at dksX1_init_18 9 rfl rfl)
theorem dX1_init_434 : decode cX1_init 434 = .ok (.newarray .int, 2) := dk_188_10 (dk_at dksX1_init_18 12 rfl rfl)
theorem dX1_init_436 : decode cX1_init 436 = .ok (.putfield 160, 3) := dk_181 0 160 (dk_at dksX1_init_18 14 rfl rfl)
theorem dX1_init_439 : decode cX1_init 439 = .ok (.aload_n 0, 1) := dk_42 (dk_at dksX1_init_18 17 rfl rfl)
theorem dX1_init_440 : decode cX1_init 440 = .ok (.sipush 24300, 3) := dk_17 94 236 (dk_at dksX1_init_18 18 rfl rfl)
theorem dX1_init_443 : decode cX1_init 443 = .ok (.newarray .int, 2) := dk_188_10 (dk_at dksX1_init_18 21 rfl rfl)
theorem dX1_init_445 : decode cX1_init 445 = .ok (.putfield 163, 3) := dk_181 0 163 (dk_at dksX1_init_19 0 rfl rfl)
theorem dX1_init_448 : decode cX1_init 448 = .ok (.aload_n 0, 1) := dk_42 (dk_at dksX1_init_19 3 rfl rfl)
theorem dX1_init_449 : decode cX1_init 449 = .ok (.sipush 24300, 3) := dk_17 94 236 (dk_at dksX1_init_19 4 rfl rfl)
theorem dX1_init_452 : decode cX1_init 452 = .ok (.newarray .int, 2) := dk_188_10 (dk_at dksX1_init_19 7 rfl rfl)
theorem dX1_init_454 : decode cX1_init 454 = .ok (.putfield 166, 3) := dk_181 0 166 (dk_at dksX1_init_19 9 rfl rfl)
theorem dX1_init_457 : decode cX1_init 457 = .ok (.aload_n 0, 1) := dk_42 (dk_at dksX1_init_19 12 rfl rfl)
theorem dX1_init_458 : decode cX1_init 458 = .ok (.bipush 100, 2) := dk_16 100 (dk_at dksX1_init_19 13 rfl rfl)
theorem dX1_init_460 : decode cX1_init 460 = .ok (.newarray .boolean, 2) := dk_188_4 (dk_at dksX1_init_19 15 rfl rfl)
theorem dX1_init_462 : decode cX1_init 462 = .ok (.putfield 169, 3) := dk_181 0 169 (dk_at dksX1_init_19 17 rfl rfl)
theorem dX1_init_465 : decode cX1_init 465 = .ok (.aload_n 0, 1) := dk_42 (dk_at dksX1_init_19 20 rfl rfl)
theorem dX1_init_466 : decode cX1_init 466 = .ok (.new 173, 3) := dk_187 0 173 (dk_at dksX1_init_19 21 rfl rfl)
theorem dX1_init_469 : decode cX1_init 469 = .ok (.dup, 1) := dk_89 (dk_at dksX1_init_20 0 rfl rfl)
theorem dX1_init_470 : decode cX1_init 470 = .ok (.aload_n 0, 1) := dk_42 (dk_at dksX1_init_20 1 rfl rfl)
theorem dX1_init_471 : decode cX1_init 471 = .ok (.invokespecial 175, 3) := dk_183 0 175 (dk_at dksX1_init_20 2 rfl rfl)
theorem dX1_init_474 : decode cX1_init 474 = .ok (.putfield 176, 3) := dk_181 0 176 (dk_at dksX1_init_20 5 rfl rfl)
theorem dX1_init_477 : decode cX1_init 477 = .ok (.aload_n 0, 1) := dk_42 (dk_at dksX1_init_20 8 rfl rfl)
theorem dX1_init_478 : decode cX1_init 478 = .ok (.iconst 2, 1) := dk_5 (dk_at dksX1_init_20 9 rfl rfl)
theorem dX1_init_479 : decode cX1_init 479 = .ok (.anewarray 87, 3) := dk_189 0 87 (dk_at dksX1_init_20 10 rfl rfl)
theorem dX1_init_482 : decode cX1_init 482 = .ok (.putfield 180, 3) := dk_181 0 180 (dk_at dksX1_init_20 13 rfl rfl)
theorem dX1_init_485 : decode cX1_init 485 = .ok (.aload_n 0, 1) := dk_42 (dk_at dksX1_init_20 16 rfl rfl)
theorem dX1_init_486 : decode cX1_init 486 = .ok (.iconst 2, 1) := dk_5 (dk_at dksX1_init_20 17 rfl rfl)
theorem dX1_init_487 : decode cX1_init 487 = .ok (.anewarray 97, 3) := dk_189 0 97 (dk_at dksX1_init_20 18 rfl rfl)
theorem dX1_init_490 : decode cX1_init 490 = .ok (.putfield 184, 3) := dk_181 0 184 (dk_at dksX1_init_20 21 rfl rfl)
theorem dX1_init_493 : decode cX1_init 493 = .ok (.aload_n 0, 1) := dk_42 (dk_at dksX1_init_21 0 rfl rfl)
theorem dX1_init_494 : decode cX1_init 494 = .ok (.iconst 2, 1) := dk_5 (dk_at dksX1_init_21 1 rfl rfl)
theorem dX1_init_495 : decode cX1_init 495 = .ok (.anewarray 188, 3) := dk_189 0 188 (dk_at dksX1_init_21 2 rfl rfl)
theorem dX1_init_498 : decode cX1_init 498 = .ok (.putfield 190, 3) := dk_181 0 190 (dk_at dksX1_init_21 5 rfl rfl)
theorem dX1_init_501 : decode cX1_init 501 = .ok (.return_, 1) := dk_177 (dk_at dksX1_init_21 8 rfl rfl)
theorem fp_X1_100_i : gFp "BitingDoors" "<init>" 100 [0] 11 (.object "BitingDoors$Day") := by
  intro args s hts hN ci hc
  simp only [List.mem_cons, List.not_mem_nil, or_false] at hc
  subst hc
  exact ⟨RX1, TX1, 46, "BitingDoors", gCl_X1, in_X1, by decide, Or.inl ⟨rfl, Or.inl (hts _ q512)⟩, fun _ h => h, rfl, fun D tys hK => gap_X1 hts hK⟩
theorem fp_X1_109_i : gFp "BitingDoors" "<init>" 109 [0] 12 (.object "BitingDoors$HouseReader") := by
  intro args s hts hN ci hc
  simp only [List.mem_cons, List.not_mem_nil, or_false] at hc
  subst hc
  exact ⟨RX1, TX1, 46, "BitingDoors", gCl_X1, in_X1, by decide, Or.inr ⟨rfl, rfl, rfl, gFin hts in_X1 (k := 12) (by decide) rfl, hts _ q513⟩, fun _ h => h, rfl, fun D tys hK => gap_X1 hts hK⟩
theorem fp_X1_116_i : gFp "BitingDoors" "<init>" 116 [0] 13 (.object "BitingDoors$DayReader") := by
  intro args s hts hN ci hc
  simp only [List.mem_cons, List.not_mem_nil, or_false] at hc
  subst hc
  exact ⟨RX1, TX1, 46, "BitingDoors", gCl_X1, in_X1, by decide, Or.inr ⟨rfl, rfl, rfl, gFin hts in_X1 (k := 13) (by decide) rfl, hts _ q514⟩, fun _ h => h, rfl, fun D tys hK => gap_X1 hts hK⟩
theorem fp_X1_120_i : gFp "BitingDoors" "<init>" 120 [0] 15 (.array .int) := by
  intro args s hts hN ci hc
  simp only [List.mem_cons, List.not_mem_nil, or_false] at hc
  subst hc
  exact ⟨RX1, TX1, 46, "BitingDoors", gCl_X1, in_X1, by decide, Or.inr ⟨rfl, rfl, rfl, gFin hts in_X1 (k := 15) (by decide) rfl, hts _ q516⟩, fun _ h => h, rfl, fun D tys hK => gap_X1 hts hK⟩
theorem fp_X1_124_i : gFp "BitingDoors" "<init>" 124 [0] 16 (.array .int) := by
  intro args s hts hN ci hc
  simp only [List.mem_cons, List.not_mem_nil, or_false] at hc
  subst hc
  exact ⟨RX1, TX1, 46, "BitingDoors", gCl_X1, in_X1, by decide, Or.inr ⟨rfl, rfl, rfl, gFin hts in_X1 (k := 16) (by decide) rfl, hts _ q517⟩, fun _ h => h, rfl, fun D tys hK => gap_X1 hts hK⟩
theorem fp_X1_127_i : gFp "BitingDoors" "<init>" 127 [0] 17 (.array .int) := by
  intro args s hts hN ci hc
  simp only [List.mem_cons, List.not_mem_nil, or_false] at hc
  subst hc
  exact ⟨RX1, TX1, 46, "BitingDoors", gCl_X1, in_X1, by decide, Or.inr ⟨rfl, rfl, rfl, gFin hts in_X1 (k := 17) (by decide) rfl, hts _ q518⟩, fun _ h => h, rfl, fun D tys hK => gap_X1 hts hK⟩
theorem fp_X1_130_i : gFp "BitingDoors" "<init>" 130 [0] 21 (.array .int) := by
  intro args s hts hN ci hc
  simp only [List.mem_cons, List.not_mem_nil, or_false] at hc
  subst hc
  exact ⟨RX1, TX1, 46, "BitingDoors", gCl_X1, in_X1, by decide, Or.inr ⟨rfl, rfl, rfl, gFin hts in_X1 (k := 21) (by decide) rfl, hts _ q522⟩, fun _ h => h, rfl, fun D tys hK => gap_X1 hts hK⟩
theorem fp_X1_133_i : gFp "BitingDoors" "<init>" 133 [0] 22 (.array .int) := by
  intro args s hts hN ci hc
  simp only [List.mem_cons, List.not_mem_nil, or_false] at hc
  subst hc
  exact ⟨RX1, TX1, 46, "BitingDoors", gCl_X1, in_X1, by decide, Or.inr ⟨rfl, rfl, rfl, gFin hts in_X1 (k := 22) (by decide) rfl, hts _ q523⟩, fun _ h => h, rfl, fun D tys hK => gap_X1 hts hK⟩
theorem fp_X1_136_i : gFp "BitingDoors" "<init>" 136 [0] 23 (.array .int) := by
  intro args s hts hN ci hc
  simp only [List.mem_cons, List.not_mem_nil, or_false] at hc
  subst hc
  exact ⟨RX1, TX1, 46, "BitingDoors", gCl_X1, in_X1, by decide, Or.inr ⟨rfl, rfl, rfl, gFin hts in_X1 (k := 23) (by decide) rfl, hts _ q524⟩, fun _ h => h, rfl, fun D tys hK => gap_X1 hts hK⟩
theorem fp_X1_139_i : gFp "BitingDoors" "<init>" 139 [0] 26 (.array .int) := by
  intro args s hts hN ci hc
  simp only [List.mem_cons, List.not_mem_nil, or_false] at hc
  subst hc
  exact ⟨RX1, TX1, 46, "BitingDoors", gCl_X1, in_X1, by decide, Or.inr ⟨rfl, rfl, rfl, gFin hts in_X1 (k := 26) (by decide) rfl, hts _ q527⟩, fun _ h => h, rfl, fun D tys hK => gap_X1 hts hK⟩
theorem fp_X1_142_i : gFp "BitingDoors" "<init>" 142 [0] 27 (.array .int) := by
  intro args s hts hN ci hc
  simp only [List.mem_cons, List.not_mem_nil, or_false] at hc
  subst hc
  exact ⟨RX1, TX1, 46, "BitingDoors", gCl_X1, in_X1, by decide, Or.inr ⟨rfl, rfl, rfl, gFin hts in_X1 (k := 27) (by decide) rfl, hts _ q528⟩, fun _ h => h, rfl, fun D tys hK => gap_X1 hts hK⟩
theorem fp_X1_145_i : gFp "BitingDoors" "<init>" 145 [0] 28 (.array .int) := by
  intro args s hts hN ci hc
  simp only [List.mem_cons, List.not_mem_nil, or_false] at hc
  subst hc
  exact ⟨RX1, TX1, 46, "BitingDoors", gCl_X1, in_X1, by decide, Or.inr ⟨rfl, rfl, rfl, gFin hts in_X1 (k := 28) (by decide) rfl, hts _ q529⟩, fun _ h => h, rfl, fun D tys hK => gap_X1 hts hK⟩
theorem fp_X1_148_i : gFp "BitingDoors" "<init>" 148 [0] 29 (.array .int) := by
  intro args s hts hN ci hc
  simp only [List.mem_cons, List.not_mem_nil, or_false] at hc
  subst hc
  exact ⟨RX1, TX1, 46, "BitingDoors", gCl_X1, in_X1, by decide, Or.inr ⟨rfl, rfl, rfl, gFin hts in_X1 (k := 29) (by decide) rfl, hts _ q530⟩, fun _ h => h, rfl, fun D tys hK => gap_X1 hts hK⟩
theorem fp_X1_151_i : gFp "BitingDoors" "<init>" 151 [0] 30 (.array .int) := by
  intro args s hts hN ci hc
  simp only [List.mem_cons, List.not_mem_nil, or_false] at hc
  subst hc
  exact ⟨RX1, TX1, 46, "BitingDoors", gCl_X1, in_X1, by decide, Or.inr ⟨rfl, rfl, rfl, gFin hts in_X1 (k := 30) (by decide) rfl, hts _ q531⟩, fun _ h => h, rfl, fun D tys hK => gap_X1 hts hK⟩
theorem fp_X1_154_i : gFp "BitingDoors" "<init>" 154 [0] 32 (.array .int) := by
  intro args s hts hN ci hc
  simp only [List.mem_cons, List.not_mem_nil, or_false] at hc
  subst hc
  exact ⟨RX1, TX1, 46, "BitingDoors", gCl_X1, in_X1, by decide, Or.inr ⟨rfl, rfl, rfl, gFin hts in_X1 (k := 32) (by decide) rfl, hts _ q533⟩, fun _ h => h, rfl, fun D tys hK => gap_X1 hts hK⟩
theorem fp_X1_157_i : gFp "BitingDoors" "<init>" 157 [0] 34 (.array .int) := by
  intro args s hts hN ci hc
  simp only [List.mem_cons, List.not_mem_nil, or_false] at hc
  subst hc
  exact ⟨RX1, TX1, 46, "BitingDoors", gCl_X1, in_X1, by decide, Or.inr ⟨rfl, rfl, rfl, gFin hts in_X1 (k := 34) (by decide) rfl, hts _ q535⟩, fun _ h => h, rfl, fun D tys hK => gap_X1 hts hK⟩
theorem fp_X1_16_i : gFp "BitingDoors" "<init>" 16 [0] 4 (.object "BitingDoors$Fault") := by
  intro args s hts hN ci hc
  simp only [List.mem_cons, List.not_mem_nil, or_false] at hc
  subst hc
  exact ⟨RX1, TX1, 46, "BitingDoors", gCl_X1, in_X1, by decide, Or.inr ⟨rfl, rfl, rfl, gFin hts in_X1 (k := 4) (by decide) rfl, hts _ q498⟩, fun _ h => h, rfl, fun D tys hK => gap_X1 hts hK⟩
theorem fp_X1_160_i : gFp "BitingDoors" "<init>" 160 [0] 35 (.array .int) := by
  intro args s hts hN ci hc
  simp only [List.mem_cons, List.not_mem_nil, or_false] at hc
  subst hc
  exact ⟨RX1, TX1, 46, "BitingDoors", gCl_X1, in_X1, by decide, Or.inr ⟨rfl, rfl, rfl, gFin hts in_X1 (k := 35) (by decide) rfl, hts _ q536⟩, fun _ h => h, rfl, fun D tys hK => gap_X1 hts hK⟩
theorem fp_X1_163_i : gFp "BitingDoors" "<init>" 163 [0] 36 (.array .int) := by
  intro args s hts hN ci hc
  simp only [List.mem_cons, List.not_mem_nil, or_false] at hc
  subst hc
  exact ⟨RX1, TX1, 46, "BitingDoors", gCl_X1, in_X1, by decide, Or.inr ⟨rfl, rfl, rfl, gFin hts in_X1 (k := 36) (by decide) rfl, hts _ q537⟩, fun _ h => h, rfl, fun D tys hK => gap_X1 hts hK⟩
theorem fp_X1_166_i : gFp "BitingDoors" "<init>" 166 [0] 37 (.array .int) := by
  intro args s hts hN ci hc
  simp only [List.mem_cons, List.not_mem_nil, or_false] at hc
  subst hc
  exact ⟨RX1, TX1, 46, "BitingDoors", gCl_X1, in_X1, by decide, Or.inr ⟨rfl, rfl, rfl, gFin hts in_X1 (k := 37) (by decide) rfl, hts _ q538⟩, fun _ h => h, rfl, fun D tys hK => gap_X1 hts hK⟩
theorem fp_X1_169_i : gFp "BitingDoors" "<init>" 169 [0] 40 (.array .boolean) := by
  intro args s hts hN ci hc
  simp only [List.mem_cons, List.not_mem_nil, or_false] at hc
  subst hc
  exact ⟨RX1, TX1, 46, "BitingDoors", gCl_X1, in_X1, by decide, Or.inr ⟨rfl, rfl, rfl, gFin hts in_X1 (k := 40) (by decide) rfl, hts _ q541⟩, fun _ h => h, rfl, fun D tys hK => gap_X1 hts hK⟩
theorem fp_X1_176_i : gFp "BitingDoors" "<init>" 176 [0] 41 (.object "BitingDoors$SentenceReader") := by
  intro args s hts hN ci hc
  simp only [List.mem_cons, List.not_mem_nil, or_false] at hc
  subst hc
  exact ⟨RX1, TX1, 46, "BitingDoors", gCl_X1, in_X1, by decide, Or.inr ⟨rfl, rfl, rfl, gFin hts in_X1 (k := 41) (by decide) rfl, hts _ q542⟩, fun _ h => h, rfl, fun D tys hK => gap_X1 hts hK⟩
theorem fp_X1_180_i : gFp "BitingDoors" "<init>" 180 [0] 43 (.array (.object "BitingDoors$Walker")) := by
  intro args s hts hN ci hc
  simp only [List.mem_cons, List.not_mem_nil, or_false] at hc
  subst hc
  exact ⟨RX1, TX1, 46, "BitingDoors", gCl_X1, in_X1, by decide, Or.inr ⟨rfl, rfl, rfl, gFin hts in_X1 (k := 43) (by decide) rfl, hts _ q544⟩, fun _ h => h, rfl, fun D tys hK => gap_X1 hts hK⟩
theorem fp_X1_184_i : gFp "BitingDoors" "<init>" 184 [0] 44 (.array (.object "BitingDoors$Day")) := by
  intro args s hts hN ci hc
  simp only [List.mem_cons, List.not_mem_nil, or_false] at hc
  subst hc
  exact ⟨RX1, TX1, 46, "BitingDoors", gCl_X1, in_X1, by decide, Or.inr ⟨rfl, rfl, rfl, gFin hts in_X1 (k := 44) (by decide) rfl, hts _ q545⟩, fun _ h => h, rfl, fun D tys hK => gap_X1 hts hK⟩
theorem fp_X1_190_i : gFp "BitingDoors" "<init>" 190 [0] 45 (.array (.object "BitingDoors$Cond")) := by
  intro args s hts hN ci hc
  simp only [List.mem_cons, List.not_mem_nil, or_false] at hc
  subst hc
  exact ⟨RX1, TX1, 46, "BitingDoors", gCl_X1, in_X1, by decide, Or.inr ⟨rfl, rfl, rfl, gFin hts in_X1 (k := 45) (by decide) rfl, hts _ q546⟩, fun _ h => h, rfl, fun D tys hK => gap_X1 hts hK⟩
theorem fp_X1_74_i : gFp "BitingDoors" "<init>" 74 [0] 5 (.array (.object "java/lang/String")) := by
  intro args s hts hN ci hc
  simp only [List.mem_cons, List.not_mem_nil, or_false] at hc
  subst hc
  exact ⟨RX1, TX1, 46, "BitingDoors", gCl_X1, in_X1, by decide, Or.inr ⟨rfl, rfl, rfl, gFin hts in_X1 (k := 5) (by decide) rfl, hts _ q500⟩, fun _ h => h, rfl, fun D tys hK => gap_X1 hts hK⟩
theorem fp_X1_78_i : gFp "BitingDoors" "<init>" 78 [0] 6 (.array (.object "java/lang/String")) := by
  intro args s hts hN ci hc
  simp only [List.mem_cons, List.not_mem_nil, or_false] at hc
  subst hc
  exact ⟨RX1, TX1, 46, "BitingDoors", gCl_X1, in_X1, by decide, Or.inr ⟨rfl, rfl, rfl, gFin hts in_X1 (k := 6) (by decide) rfl, hts _ q502⟩, fun _ h => h, rfl, fun D tys hK => gap_X1 hts hK⟩
theorem fp_X1_81_i : gFp "BitingDoors" "<init>" 81 [0] 7 (.array (.object "java/lang/String")) := by
  intro args s hts hN ci hc
  simp only [List.mem_cons, List.not_mem_nil, or_false] at hc
  subst hc
  exact ⟨RX1, TX1, 46, "BitingDoors", gCl_X1, in_X1, by decide, Or.inr ⟨rfl, rfl, rfl, gFin hts in_X1 (k := 7) (by decide) rfl, hts _ q504⟩, fun _ h => h, rfl, fun D tys hK => gap_X1 hts hK⟩
theorem fp_X1_84_i : gFp "BitingDoors" "<init>" 84 [0] 8 (.array (.object "java/lang/String")) := by
  intro args s hts hN ci hc
  simp only [List.mem_cons, List.not_mem_nil, or_false] at hc
  subst hc
  exact ⟨RX1, TX1, 46, "BitingDoors", gCl_X1, in_X1, by decide, Or.inr ⟨rfl, rfl, rfl, gFin hts in_X1 (k := 8) (by decide) rfl, hts _ q506⟩, fun _ h => h, rfl, fun D tys hK => gap_X1 hts hK⟩
theorem fp_X1_9_i : gFp "BitingDoors" "<init>" 9 [0] 0 (.array .byte) := by
  intro args s hts hN ci hc
  simp only [List.mem_cons, List.not_mem_nil, or_false] at hc
  subst hc
  exact ⟨RX1, TX1, 46, "BitingDoors", gCl_X1, in_X1, by decide, Or.inr ⟨rfl, rfl, rfl, gFin hts in_X1 (k := 0) (by decide) rfl, hts _ q492⟩, fun _ h => h, rfl, fun D tys hK => gap_X1 hts hK⟩
theorem fp_X1_90_i : gFp "BitingDoors" "<init>" 90 [0] 9 (.object "BitingDoors$Walker") := by
  intro args s hts hN ci hc
  simp only [List.mem_cons, List.not_mem_nil, or_false] at hc
  subst hc
  exact ⟨RX1, TX1, 46, "BitingDoors", gCl_X1, in_X1, by decide, Or.inr ⟨rfl, rfl, rfl, gFin hts in_X1 (k := 9) (by decide) rfl, hts _ q508⟩, fun _ h => h, rfl, fun D tys hK => gap_X1 hts hK⟩
theorem fp_X1_94_i : gFp "BitingDoors" "<init>" 94 [0] 10 (.object "BitingDoors$Walker") := by
  intro args s hts hN ci hc
  simp only [List.mem_cons, List.not_mem_nil, or_false] at hc
  subst hc
  exact ⟨RX1, TX1, 46, "BitingDoors", gCl_X1, in_X1, by decide, Or.inr ⟨rfl, rfl, rfl, gFin hts in_X1 (k := 10) (by decide) rfl, hts _ q511⟩, fun _ h => h, rfl, fun D tys hK => gap_X1 hts hK⟩
theorem nw_X1_104 : gNw "BitingDoors" 104 5 10 [.int 0, .int 0, .int 0, .int 0, .int 0, .int 0, .long 0, .null, .null, .null] := ⟨RX7, TX7, tyX7, gCl_X7, in_X7, tyX7_ok, q376, q377, q117, by decide, rfl⟩
theorem nw_X1_113 : gNw "BitingDoors" 113 6 9 [.int 0, .int 0, .int 0, .int 0, .int 0, .int 0, .long 0, .null, .null] := ⟨RX8, TX8, tyX8, gCl_X8, in_X8, tyX8_ok, q432, q433, q118, by decide, rfl⟩
theorem nw_X1_13 : gNw "BitingDoors" 13 1 8 [.null, .null, .null, .null, .null, .int 0, .int 0, .int 0] := ⟨RX2, TX2, tyX2, gCl_X2, in_X2, tyX2_ok, q154, q155, q112, by decide, rfl⟩
theorem nw_X1_173 : gNw "BitingDoors" 173 7 12 [.int 0, .int 0, .int 0, .int 0, .int 0, .int 0, .long 0, .null, .null, .null, .int 0, .null] := ⟨RX9, TX9, tyX9, gCl_X9, in_X9, tyX9_ok, q450, q451, q119, by decide, rfl⟩
theorem dn_X1_init : yX1_init.cls ≠ "java/lang/invoke/MethodHandle" ∧ yX1_init.cls ≠ "java/lang/invoke/VarHandle" ∧ (parseMethodDescriptor yX1_init.desc).map (fun d => d.parameters.length) = some 0 := by decide +kernel
noncomputable def M_X1_init (t : Nat) : Mo Unit := Mo.bind (nwI 2 940) (fun q1 => Mo.bind (pF [0] t 0 (.ref q1)) (fun _ => Mo.bind (nw 1 8 [.null, .null, .null, .null, .null, .int 0, .int 0, .int 0]) (fun q2 => Mo.bind (M_X2_init q2) (fun v3 => Mo.bind (pF [0] t 4 (.ref q2)) (fun _ => Mo.bind (nwR 10 26) (fun q4 => Mo.bind (astS q4 0 0) (fun _ => Mo.bind (astS q4 1 1) (fun _ => Mo.bind (astS q4 2 2) (fun _ => Mo.bind (astS q4 3 3) (fun _ => Mo.bind (astS q4 4 4) (fun _ => Mo.bind (astS q4 5 5) (fun _ => Mo.bind (astS q4 6 6) (fun _ => Mo.bind (astS q4 7 7) (fun _ => Mo.bind (astS q4 8 8) (fun _ => Mo.bind (astS q4 9 9) (fun _ => Mo.bind (astS q4 10 10) (fun _ => Mo.bind (astS q4 11 11) (fun _ => Mo.bind (astS q4 12 12) (fun _ => Mo.bind (astS q4 13 13) (fun _ => Mo.bind (astS q4 14 14) (fun _ => Mo.bind (astS q4 15 15) (fun _ => Mo.bind (astS q4 16 16) (fun _ => Mo.bind (astS q4 17 17) (fun _ => Mo.bind (astS q4 18 18) (fun _ => Mo.bind (astS q4 19 19) (fun _ => Mo.bind (astS q4 20 20) (fun _ => Mo.bind (astS q4 21 21) (fun _ => Mo.bind (astS q4 22 22) (fun _ => Mo.bind (astS q4 23 23) (fun _ => Mo.bind (astS q4 24 24) (fun _ => Mo.bind (astS q4 25 25) (fun _ => Mo.bind (pF [0] t 5 (.ref q4)) (fun _ => Mo.bind (nwR 10 4) (fun q5 => Mo.bind (astS q5 0 0) (fun _ => Mo.bind (astS q5 1 1) (fun _ => Mo.bind (astS q5 2 2) (fun _ => Mo.bind (astS q5 3 3) (fun _ => Mo.bind (pF [0] t 6 (.ref q5)) (fun _ => Mo.bind (nwR 10 4) (fun q6 => Mo.bind (astS q6 0 13) (fun _ => Mo.bind (astS q6 1 14) (fun _ => Mo.bind (astS q6 2 15) (fun _ => Mo.bind (astS q6 3 16) (fun _ => Mo.bind (pF [0] t 7 (.ref q6)) (fun _ => Mo.bind (nwR 10 4) (fun q7 => Mo.bind (astS q7 0 9) (fun _ => Mo.bind (astS q7 1 10) (fun _ => Mo.bind (astS q7 2 11) (fun _ => Mo.bind (astS q7 3 12) (fun _ => Mo.bind (pF [0] t 8 (.ref q7)) (fun _ => Mo.bind (nw 2 6 [.null, .null, .null, .int 0, .int 0, .int 0]) (fun q8 => Mo.bind (M_X3_init q8) (fun v9 => Mo.bind (pF [0] t 9 (.ref q8)) (fun _ => Mo.bind (nw 2 6 [.null, .null, .null, .int 0, .int 0, .int 0]) (fun q10 => Mo.bind (M_X3_init q10) (fun v11 => Mo.bind (pF [0] t 10 (.ref q10)) (fun _ => Mo.bind (nw 4 2 [.null, .int 0]) (fun q12 => Mo.bind (M_X5_init q12) (fun v13 => Mo.bind (pF [0] t 11 (.ref q12)) (fun _ => Mo.bind (nw 5 10 [.int 0, .int 0, .int 0, .int 0, .int 0, .int 0, .long 0, .null, .null, .null]) (fun q14 => Mo.bind (M_X7_init q14 t) (fun v15 => Mo.bind (pF [0] t 12 (.ref q14)) (fun _ => Mo.bind (nw 6 9 [.int 0, .int 0, .int 0, .int 0, .int 0, .int 0, .long 0, .null, .null]) (fun q16 => Mo.bind (M_X8_init q16 t) (fun v17 => Mo.bind (pF [0] t 13 (.ref q16)) (fun _ => Mo.bind (nwI 0 10) (fun q18 => Mo.bind (pF [0] t 15 (.ref q18)) (fun _ => Mo.bind (nwI 0 10) (fun q19 => Mo.bind (pF [0] t 16 (.ref q19)) (fun _ => Mo.bind (nwI 0 10) (fun q20 => Mo.bind (pF [0] t 17 (.ref q20)) (fun _ => Mo.bind (nwI 0 10) (fun q21 => Mo.bind (pF [0] t 21 (.ref q21)) (fun _ => Mo.bind (nwI 0 10) (fun q22 => Mo.bind (pF [0] t 22 (.ref q22)) (fun _ => Mo.bind (nwI 0 10) (fun q23 => Mo.bind (pF [0] t 23 (.ref q23)) (fun _ => Mo.bind (nwI 0 10) (fun q24 => Mo.bind (pF [0] t 26 (.ref q24)) (fun _ => Mo.bind (nwI 0 10) (fun q25 => Mo.bind (pF [0] t 27 (.ref q25)) (fun _ => Mo.bind (nwI 0 10) (fun q26 => Mo.bind (pF [0] t 28 (.ref q26)) (fun _ => Mo.bind (nwI 0 1024) (fun q27 => Mo.bind (pF [0] t 29 (.ref q27)) (fun _ => Mo.bind (nwI 0 1024) (fun q28 => Mo.bind (pF [0] t 30 (.ref q28)) (fun _ => Mo.bind (nwI 0 5) (fun q29 => Mo.bind (pF [0] t 32 (.ref q29)) (fun _ => Mo.bind (nwI 0 24300) (fun q30 => Mo.bind (pF [0] t 34 (.ref q30)) (fun _ => Mo.bind (nwI 0 24300) (fun q31 => Mo.bind (pF [0] t 35 (.ref q31)) (fun _ => Mo.bind (nwI 0 24300) (fun q32 => Mo.bind (pF [0] t 36 (.ref q32)) (fun _ => Mo.bind (nwI 0 24300) (fun q33 => Mo.bind (pF [0] t 37 (.ref q33)) (fun _ => Mo.bind (nwI 3 100) (fun q34 => Mo.bind (pF [0] t 40 (.ref q34)) (fun _ => Mo.bind (nw 7 12 [.int 0, .int 0, .int 0, .int 0, .int 0, .int 0, .long 0, .null, .null, .null, .int 0, .null]) (fun q35 => Mo.bind (M_X9_init q35 t) (fun v36 => Mo.bind (pF [0] t 41 (.ref q35)) (fun _ => Mo.bind (nwR 7 2) (fun q37 => Mo.bind (pF [0] t 43 (.ref q37)) (fun _ => Mo.bind (nwR 8 2) (fun q38 => Mo.bind (pF [0] t 44 (.ref q38)) (fun _ => Mo.bind (nwR 9 2) (fun q39 => Mo.bind (pF [0] t 45 (.ref q39)) (fun _ => Mo.pure ())))))))))))))))))))))))))))))))))))))))))))))))))))))))))))))))))))))))))))))))))))))))))))))))))))))))))))))
set_option maxHeartbeats 4000000 in
theorem ct_X1_init (G : gG) (t : Nat) : gCt G yX1_init cX1_init 1 none 4 88 [.ref t] (M_X1_init t) (fun _ : Unit => none) := by
  refine gCt.of (by decide) (Nat.le_of_ble_eq_true rfl) (fun K r hG X hd ho => ?_)
  subst hG
  have X : gX K cX1_init 1 "BitingDoors" "<init>" none 4 88 := X
  have hle : gLe (kh1 K) (kh1 K) := gLe.rf
  show V K 1 (kh0 K) 0 [(0, .ref t)] []
  generalize kh0 K = h at hd ⊢
  unfold M_X1_init at hd
  refine v_aload_n X dX1_init_0 0 0 rfl rfl ?_
  refine v_objInit X q151 q152 q153 (Nat.le_of_ble_eq_true rfl) dX1_init_1 (by decide) (by decide) ?_
  refine v_aload_n X dX1_init_4 0 0 rfl rfl ?_
  refine v_sipush (v := 940) X dX1_init_5 (by decide) ?_
  refine v_newI X hd hle 2 rfl rfl rfl (fun _ z => by cases z) (by decide) q222 dX1_init_8 (fun q1 h hd => ?_)
  refine v_put (v := .ref q1) X hd fp_X1_9_i rfl rfl dX1_init_10 (fun h hd => ?_)
  refine v_aload_n X dX1_init_13 0 0 rfl rfl ?_
  refine v_new X hd hle nw_X1_13 dX1_init_14 (fun q2 h hd => ?_)
  refine v_dup X dX1_init_17 rfl ?_
  refine v_callI X hd hle (ct_X2_init _ q2) q194 q112 q192 q193 rfl dn_X2_init rfl ⟨by decide, by decide⟩ rfl (Nat.le_of_ble_eq_true rfl) dX1_init_18 (fun v3 h hd => ?_)
  show V K 1 h 21 [(0, .ref t)] [.ref q2, .ref t]
  refine v_put (v := .ref q2) X hd fp_X1_16_i rfl rfl dX1_init_21 (fun h hd => ?_)
  refine v_aload_n X dX1_init_24 0 0 rfl rfl ?_
  refine v_bipush (v := 26) X dX1_init_25 (by decide) ?_
  refine v_newR X hd hle 10 rfl q223 (by decide) dX1_init_27 (fun q4 h hd => ?_)
  refine v_dup X dX1_init_30 rfl ?_
  refine v_iconst (v := 0) X dX1_init_31 (by decide) ?_
  refine v_ldcS X 0 (by decide) rfl dX1_init_32 ?_
  refine v_astS X hd dX1_init_34 (fun h hd => ?_)
  refine v_dup X dX1_init_35 rfl ?_
  refine v_iconst (v := 1) X dX1_init_36 (by decide) ?_
  refine v_ldcS X 1 (by decide) rfl dX1_init_37 ?_
  refine v_astS X hd dX1_init_39 (fun h hd => ?_)
  refine v_dup X dX1_init_40 rfl ?_
  refine v_iconst (v := 2) X dX1_init_41 (by decide) ?_
  refine v_ldcS X 2 (by decide) rfl dX1_init_42 ?_
  refine v_astS X hd dX1_init_44 (fun h hd => ?_)
  refine v_dup X dX1_init_45 rfl ?_
  refine v_iconst (v := 3) X dX1_init_46 (by decide) ?_
  refine v_ldcS X 3 (by decide) rfl dX1_init_47 ?_
  refine v_astS X hd dX1_init_49 (fun h hd => ?_)
  refine v_dup X dX1_init_50 rfl ?_
  refine v_iconst (v := 4) X dX1_init_51 (by decide) ?_
  refine v_ldcS X 4 (by decide) rfl dX1_init_52 ?_
  refine v_astS X hd dX1_init_54 (fun h hd => ?_)
  refine v_dup X dX1_init_55 rfl ?_
  refine v_iconst (v := 5) X dX1_init_56 (by decide) ?_
  refine v_ldcS X 5 (by decide) rfl dX1_init_57 ?_
  refine v_astS X hd dX1_init_59 (fun h hd => ?_)
  refine v_dup X dX1_init_60 rfl ?_
  refine v_bipush (v := 6) X dX1_init_61 (by decide) ?_
  refine v_ldcS X 6 (by decide) rfl dX1_init_63 ?_
  refine v_astS X hd dX1_init_65 (fun h hd => ?_)
  refine v_dup X dX1_init_66 rfl ?_
  refine v_bipush (v := 7) X dX1_init_67 (by decide) ?_
  refine v_ldcS X 7 (by decide) rfl dX1_init_69 ?_
  refine v_astS X hd dX1_init_71 (fun h hd => ?_)
  refine v_dup X dX1_init_72 rfl ?_
  refine v_bipush (v := 8) X dX1_init_73 (by decide) ?_
  refine v_ldcS X 8 (by decide) rfl dX1_init_75 ?_
  refine v_astS X hd dX1_init_77 (fun h hd => ?_)
  refine v_dup X dX1_init_78 rfl ?_
  refine v_bipush (v := 9) X dX1_init_79 (by decide) ?_
  refine v_ldcS X 9 (by decide) rfl dX1_init_81 ?_
  refine v_astS X hd dX1_init_83 (fun h hd => ?_)
  refine v_dup X dX1_init_84 rfl ?_
  refine v_bipush (v := 10) X dX1_init_85 (by decide) ?_
  refine v_ldcS X 10 (by decide) rfl dX1_init_87 ?_
  refine v_astS X hd dX1_init_89 (fun h hd => ?_)
  refine v_dup X dX1_init_90 rfl ?_
  refine v_bipush (v := 11) X dX1_init_91 (by decide) ?_
  refine v_ldcS X 11 (by decide) rfl dX1_init_93 ?_
  refine v_astS X hd dX1_init_95 (fun h hd => ?_)
  refine v_dup X dX1_init_96 rfl ?_
  refine v_bipush (v := 12) X dX1_init_97 (by decide) ?_
  refine v_ldcS X 12 (by decide) rfl dX1_init_99 ?_
  refine v_astS X hd dX1_init_101 (fun h hd => ?_)
  refine v_dup X dX1_init_102 rfl ?_
  refine v_bipush (v := 13) X dX1_init_103 (by decide) ?_
  refine v_ldcS X 13 (by decide) rfl dX1_init_105 ?_
  refine v_astS X hd dX1_init_107 (fun h hd => ?_)
  refine v_dup X dX1_init_108 rfl ?_
  refine v_bipush (v := 14) X dX1_init_109 (by decide) ?_
  refine v_ldcS X 14 (by decide) rfl dX1_init_111 ?_
  refine v_astS X hd dX1_init_113 (fun h hd => ?_)
  refine v_dup X dX1_init_114 rfl ?_
  refine v_bipush (v := 15) X dX1_init_115 (by decide) ?_
  refine v_ldcS X 15 (by decide) rfl dX1_init_117 ?_
  refine v_astS X hd dX1_init_119 (fun h hd => ?_)
  refine v_dup X dX1_init_120 rfl ?_
  refine v_bipush (v := 16) X dX1_init_121 (by decide) ?_
  refine v_ldcS X 16 (by decide) rfl dX1_init_123 ?_
  refine v_astS X hd dX1_init_125 (fun h hd => ?_)
  refine v_dup X dX1_init_126 rfl ?_
  refine v_bipush (v := 17) X dX1_init_127 (by decide) ?_
  refine v_ldcS X 17 (by decide) rfl dX1_init_129 ?_
  refine v_astS X hd dX1_init_131 (fun h hd => ?_)
  refine v_dup X dX1_init_132 rfl ?_
  refine v_bipush (v := 18) X dX1_init_133 (by decide) ?_
  refine v_ldcS X 18 (by decide) rfl dX1_init_135 ?_
  refine v_astS X hd dX1_init_137 (fun h hd => ?_)
  refine v_dup X dX1_init_138 rfl ?_
  refine v_bipush (v := 19) X dX1_init_139 (by decide) ?_
  refine v_ldcS X 19 (by decide) rfl dX1_init_141 ?_
  refine v_astS X hd dX1_init_143 (fun h hd => ?_)
  refine v_dup X dX1_init_144 rfl ?_
  refine v_bipush (v := 20) X dX1_init_145 (by decide) ?_
  refine v_ldcS X 20 (by decide) rfl dX1_init_147 ?_
  refine v_astS X hd dX1_init_149 (fun h hd => ?_)
  refine v_dup X dX1_init_150 rfl ?_
  refine v_bipush (v := 21) X dX1_init_151 (by decide) ?_
  refine v_ldcS X 21 (by decide) rfl dX1_init_153 ?_
  refine v_astS X hd dX1_init_155 (fun h hd => ?_)
  refine v_dup X dX1_init_156 rfl ?_
  refine v_bipush (v := 22) X dX1_init_157 (by decide) ?_
  refine v_ldcS X 22 (by decide) rfl dX1_init_159 ?_
  refine v_astS X hd dX1_init_161 (fun h hd => ?_)
  refine v_dup X dX1_init_162 rfl ?_
  refine v_bipush (v := 23) X dX1_init_163 (by decide) ?_
  refine v_ldcS X 23 (by decide) rfl dX1_init_165 ?_
  refine v_astS X hd dX1_init_167 (fun h hd => ?_)
  refine v_dup X dX1_init_168 rfl ?_
  refine v_bipush (v := 24) X dX1_init_169 (by decide) ?_
  refine v_ldcS X 24 (by decide) rfl dX1_init_171 ?_
  refine v_astS X hd dX1_init_173 (fun h hd => ?_)
  refine v_dup X dX1_init_174 rfl ?_
  refine v_bipush (v := 25) X dX1_init_175 (by decide) ?_
  refine v_ldcS X 25 (by decide) rfl dX1_init_177 ?_
  refine v_astS X hd dX1_init_179 (fun h hd => ?_)
  refine v_put (v := .ref q4) X hd fp_X1_74_i rfl rfl dX1_init_180 (fun h hd => ?_)
  refine v_aload_n X dX1_init_183 0 0 rfl rfl ?_
  refine v_iconst (v := 4) X dX1_init_184 (by decide) ?_
  refine v_newR X hd hle 10 rfl q223 (by decide) dX1_init_185 (fun q5 h hd => ?_)
  refine v_dup X dX1_init_188 rfl ?_
  refine v_iconst (v := 0) X dX1_init_189 (by decide) ?_
  refine v_ldcS X 0 (by decide) rfl dX1_init_190 ?_
  refine v_astS X hd dX1_init_192 (fun h hd => ?_)
  refine v_dup X dX1_init_193 rfl ?_
  refine v_iconst (v := 1) X dX1_init_194 (by decide) ?_
  refine v_ldcS X 1 (by decide) rfl dX1_init_195 ?_
  refine v_astS X hd dX1_init_197 (fun h hd => ?_)
  refine v_dup X dX1_init_198 rfl ?_
  refine v_iconst (v := 2) X dX1_init_199 (by decide) ?_
  refine v_ldcS X 2 (by decide) rfl dX1_init_200 ?_
  refine v_astS X hd dX1_init_202 (fun h hd => ?_)
  refine v_dup X dX1_init_203 rfl ?_
  refine v_iconst (v := 3) X dX1_init_204 (by decide) ?_
  refine v_ldcS X 3 (by decide) rfl dX1_init_205 ?_
  refine v_astS X hd dX1_init_207 (fun h hd => ?_)
  refine v_put (v := .ref q5) X hd fp_X1_78_i rfl rfl dX1_init_208 (fun h hd => ?_)
  refine v_aload_n X dX1_init_211 0 0 rfl rfl ?_
  refine v_iconst (v := 4) X dX1_init_212 (by decide) ?_
  refine v_newR X hd hle 10 rfl q223 (by decide) dX1_init_213 (fun q6 h hd => ?_)
  refine v_dup X dX1_init_216 rfl ?_
  refine v_iconst (v := 0) X dX1_init_217 (by decide) ?_
  refine v_ldcS X 13 (by decide) rfl dX1_init_218 ?_
  refine v_astS X hd dX1_init_220 (fun h hd => ?_)
  refine v_dup X dX1_init_221 rfl ?_
  refine v_iconst (v := 1) X dX1_init_222 (by decide) ?_
  refine v_ldcS X 14 (by decide) rfl dX1_init_223 ?_
  refine v_astS X hd dX1_init_225 (fun h hd => ?_)
  refine v_dup X dX1_init_226 rfl ?_
  refine v_iconst (v := 2) X dX1_init_227 (by decide) ?_
  refine v_ldcS X 15 (by decide) rfl dX1_init_228 ?_
  refine v_astS X hd dX1_init_230 (fun h hd => ?_)
  refine v_dup X dX1_init_231 rfl ?_
  refine v_iconst (v := 3) X dX1_init_232 (by decide) ?_
  refine v_ldcS X 16 (by decide) rfl dX1_init_233 ?_
  refine v_astS X hd dX1_init_235 (fun h hd => ?_)
  refine v_put (v := .ref q6) X hd fp_X1_81_i rfl rfl dX1_init_236 (fun h hd => ?_)
  refine v_aload_n X dX1_init_239 0 0 rfl rfl ?_
  refine v_iconst (v := 4) X dX1_init_240 (by decide) ?_
  refine v_newR X hd hle 10 rfl q223 (by decide) dX1_init_241 (fun q7 h hd => ?_)
  refine v_dup X dX1_init_244 rfl ?_
  refine v_iconst (v := 0) X dX1_init_245 (by decide) ?_
  refine v_ldcS X 9 (by decide) rfl dX1_init_246 ?_
  refine v_astS X hd dX1_init_248 (fun h hd => ?_)
  refine v_dup X dX1_init_249 rfl ?_
  refine v_iconst (v := 1) X dX1_init_250 (by decide) ?_
  refine v_ldcS X 10 (by decide) rfl dX1_init_251 ?_
  refine v_astS X hd dX1_init_253 (fun h hd => ?_)
  refine v_dup X dX1_init_254 rfl ?_
  refine v_iconst (v := 2) X dX1_init_255 (by decide) ?_
  refine v_ldcS X 11 (by decide) rfl dX1_init_256 ?_
  refine v_astS X hd dX1_init_258 (fun h hd => ?_)
  refine v_dup X dX1_init_259 rfl ?_
  refine v_iconst (v := 3) X dX1_init_260 (by decide) ?_
  refine v_ldcS X 12 (by decide) rfl dX1_init_261 ?_
  refine v_astS X hd dX1_init_263 (fun h hd => ?_)
  refine v_put (v := .ref q7) X hd fp_X1_84_i rfl rfl dX1_init_264 (fun h hd => ?_)
  refine v_aload_n X dX1_init_267 0 0 rfl rfl ?_
  refine v_new X hd hle nw_X1_87 dX1_init_268 (fun q8 h hd => ?_)
  refine v_dup X dX1_init_271 rfl ?_
  refine v_callIN (host := "BitingDoors") X hd hle (ct_X3_init _ q8) (List.mem_of_getElem? (i := 0) rfl) q255 q113 q254 rfl dn_X3_init rfl ⟨by decide, by decide⟩ rfl (Nat.le_of_ble_eq_true rfl) dX1_init_272 (fun v9 h hd => ?_)
  show V K 1 h 275 [(0, .ref t)] [.ref q8, .ref t]
  refine v_put (v := .ref q8) X hd fp_X1_90_i rfl rfl dX1_init_275 (fun h hd => ?_)
  refine v_aload_n X dX1_init_278 0 0 rfl rfl ?_
  refine v_new X hd hle nw_X1_87 dX1_init_279 (fun q10 h hd => ?_)
  refine v_dup X dX1_init_282 rfl ?_
  refine v_callIN (host := "BitingDoors") X hd hle (ct_X3_init _ q10) (List.mem_of_getElem? (i := 0) rfl) q255 q113 q254 rfl dn_X3_init rfl ⟨by decide, by decide⟩ rfl (Nat.le_of_ble_eq_true rfl) dX1_init_283 (fun v11 h hd => ?_)
  show V K 1 h 286 [(0, .ref t)] [.ref q10, .ref t]
  refine v_put (v := .ref q10) X hd fp_X1_94_i rfl rfl dX1_init_286 (fun h hd => ?_)
  refine v_aload_n X dX1_init_289 0 0 rfl rfl ?_
  refine v_new X hd hle nw_X1_97 dX1_init_290 (fun q12 h hd => ?_)
  refine v_dup X dX1_init_293 rfl ?_
  refine v_callIN (host := "BitingDoors") X hd hle (ct_X5_init _ q12) (List.mem_of_getElem? (i := 1) rfl) q362 q115 q361 rfl dn_X5_init rfl ⟨by decide, by decide⟩ rfl (Nat.le_of_ble_eq_true rfl) dX1_init_294 (fun v13 h hd => ?_)
  show V K 1 h 297 [(0, .ref t)] [.ref q12, .ref t]
  refine v_put (v := .ref q12) X hd fp_X1_100_i rfl rfl dX1_init_297 (fun h hd => ?_)
  refine v_aload_n X dX1_init_300 0 0 rfl rfl ?_
  refine v_new X hd hle nw_X1_104 dX1_init_301 (fun q14 h hd => ?_)
  refine v_dup X dX1_init_304 rfl ?_
  refine v_aload_n X dX1_init_305 0 0 rfl rfl ?_
  refine v_callI X hd hle (ct_X7_init _ q14 t) q380 q117 q378 q379 rfl dn_X7_init rfl ⟨by decide, by decide⟩ rfl (Nat.le_of_ble_eq_true rfl) dX1_init_306 (fun v15 h hd => ?_)
  show V K 1 h 309 [(0, .ref t)] [.ref q14, .ref t]
  refine v_put (v := .ref q14) X hd fp_X1_109_i rfl rfl dX1_init_309 (fun h hd => ?_)
  refine v_aload_n X dX1_init_312 0 0 rfl rfl ?_
  refine v_new X hd hle nw_X1_113 dX1_init_313 (fun q16 h hd => ?_)
  refine v_dup X dX1_init_316 rfl ?_
  refine v_aload_n X dX1_init_317 0 0 rfl rfl ?_
  refine v_callI X hd hle (ct_X8_init _ q16 t) q436 q118 q434 q435 rfl dn_X8_init rfl ⟨by decide, by decide⟩ rfl (Nat.le_of_ble_eq_true rfl) dX1_init_318 (fun v17 h hd => ?_)
  show V K 1 h 321 [(0, .ref t)] [.ref q16, .ref t]
  refine v_put (v := .ref q16) X hd fp_X1_116_i rfl rfl dX1_init_321 (fun h hd => ?_)
  refine v_aload_n X dX1_init_324 0 0 rfl rfl ?_
  refine v_bipush (v := 10) X dX1_init_325 (by decide) ?_
  refine v_newI X hd hle 0 rfl rfl rfl (fun _ z => by cases z) (by decide) q317 dX1_init_327 (fun q18 h hd => ?_)
  refine v_put (v := .ref q18) X hd fp_X1_120_i rfl rfl dX1_init_329 (fun h hd => ?_)
  refine v_aload_n X dX1_init_332 0 0 rfl rfl ?_
  refine v_bipush (v := 10) X dX1_init_333 (by decide) ?_
  refine v_newI X hd hle 0 rfl rfl rfl (fun _ z => by cases z) (by decide) q317 dX1_init_335 (fun q19 h hd => ?_)
  refine v_put (v := .ref q19) X hd fp_X1_124_i rfl rfl dX1_init_337 (fun h hd => ?_)
  refine v_aload_n X dX1_init_340 0 0 rfl rfl ?_
  refine v_bipush (v := 10) X dX1_init_341 (by decide) ?_
  refine v_newI X hd hle 0 rfl rfl rfl (fun _ z => by cases z) (by decide) q317 dX1_init_343 (fun q20 h hd => ?_)
  refine v_put (v := .ref q20) X hd fp_X1_127_i rfl rfl dX1_init_345 (fun h hd => ?_)
  refine v_aload_n X dX1_init_348 0 0 rfl rfl ?_
  refine v_bipush (v := 10) X dX1_init_349 (by decide) ?_
  refine v_newI X hd hle 0 rfl rfl rfl (fun _ z => by cases z) (by decide) q317 dX1_init_351 (fun q21 h hd => ?_)
  refine v_put (v := .ref q21) X hd fp_X1_130_i rfl rfl dX1_init_353 (fun h hd => ?_)
  refine v_aload_n X dX1_init_356 0 0 rfl rfl ?_
  refine v_bipush (v := 10) X dX1_init_357 (by decide) ?_
  refine v_newI X hd hle 0 rfl rfl rfl (fun _ z => by cases z) (by decide) q317 dX1_init_359 (fun q22 h hd => ?_)
  refine v_put (v := .ref q22) X hd fp_X1_133_i rfl rfl dX1_init_361 (fun h hd => ?_)
  refine v_aload_n X dX1_init_364 0 0 rfl rfl ?_
  refine v_bipush (v := 10) X dX1_init_365 (by decide) ?_
  refine v_newI X hd hle 0 rfl rfl rfl (fun _ z => by cases z) (by decide) q317 dX1_init_367 (fun q23 h hd => ?_)
  refine v_put (v := .ref q23) X hd fp_X1_136_i rfl rfl dX1_init_369 (fun h hd => ?_)
  refine v_aload_n X dX1_init_372 0 0 rfl rfl ?_
  refine v_bipush (v := 10) X dX1_init_373 (by decide) ?_
  refine v_newI X hd hle 0 rfl rfl rfl (fun _ z => by cases z) (by decide) q317 dX1_init_375 (fun q24 h hd => ?_)
  refine v_put (v := .ref q24) X hd fp_X1_139_i rfl rfl dX1_init_377 (fun h hd => ?_)
  refine v_aload_n X dX1_init_380 0 0 rfl rfl ?_
  refine v_bipush (v := 10) X dX1_init_381 (by decide) ?_
  refine v_newI X hd hle 0 rfl rfl rfl (fun _ z => by cases z) (by decide) q317 dX1_init_383 (fun q25 h hd => ?_)
  refine v_put (v := .ref q25) X hd fp_X1_142_i rfl rfl dX1_init_385 (fun h hd => ?_)
  refine v_aload_n X dX1_init_388 0 0 rfl rfl ?_
  refine v_bipush (v := 10) X dX1_init_389 (by decide) ?_
  refine v_newI X hd hle 0 rfl rfl rfl (fun _ z => by cases z) (by decide) q317 dX1_init_391 (fun q26 h hd => ?_)
  refine v_put (v := .ref q26) X hd fp_X1_145_i rfl rfl dX1_init_393 (fun h hd => ?_)
  refine v_aload_n X dX1_init_396 0 0 rfl rfl ?_
  refine v_sipush (v := 1024) X dX1_init_397 (by decide) ?_
  refine v_newI X hd hle 0 rfl rfl rfl (fun _ z => by cases z) (by decide) q317 dX1_init_400 (fun q27 h hd => ?_)
  refine v_put (v := .ref q27) X hd fp_X1_148_i rfl rfl dX1_init_402 (fun h hd => ?_)
  refine v_aload_n X dX1_init_405 0 0 rfl rfl ?_
  refine v_sipush (v := 1024) X dX1_init_406 (by decide) ?_
  refine v_newI X hd hle 0 rfl rfl rfl (fun _ z => by cases z) (by decide) q317 dX1_init_409 (fun q28 h hd => ?_)
  refine v_put (v := .ref q28) X hd fp_X1_151_i rfl rfl dX1_init_411 (fun h hd => ?_)
  refine v_aload_n X dX1_init_414 0 0 rfl rfl ?_
  refine v_iconst (v := 5) X dX1_init_415 (by decide) ?_
  refine v_newI X hd hle 0 rfl rfl rfl (fun _ z => by cases z) (by decide) q317 dX1_init_416 (fun q29 h hd => ?_)
  refine v_put (v := .ref q29) X hd fp_X1_154_i rfl rfl dX1_init_418 (fun h hd => ?_)
  refine v_aload_n X dX1_init_421 0 0 rfl rfl ?_
  refine v_sipush (v := 24300) X dX1_init_422 (by decide) ?_
  refine v_newI X hd hle 0 rfl rfl rfl (fun _ z => by cases z) (by decide) q317 dX1_init_425 (fun q30 h hd => ?_)
  refine v_put (v := .ref q30) X hd fp_X1_157_i rfl rfl dX1_init_427 (fun h hd => ?_)
  refine v_aload_n X dX1_init_430 0 0 rfl rfl ?_
  refine v_sipush (v := 24300) X dX1_init_431 (by decide) ?_
  refine v_newI X hd hle 0 rfl rfl rfl (fun _ z => by cases z) (by decide) q317 dX1_init_434 (fun q31 h hd => ?_)
  refine v_put (v := .ref q31) X hd fp_X1_160_i rfl rfl dX1_init_436 (fun h hd => ?_)
  refine v_aload_n X dX1_init_439 0 0 rfl rfl ?_
  refine v_sipush (v := 24300) X dX1_init_440 (by decide) ?_
  refine v_newI X hd hle 0 rfl rfl rfl (fun _ z => by cases z) (by decide) q317 dX1_init_443 (fun q32 h hd => ?_)
  refine v_put (v := .ref q32) X hd fp_X1_163_i rfl rfl dX1_init_445 (fun h hd => ?_)
  refine v_aload_n X dX1_init_448 0 0 rfl rfl ?_
  refine v_sipush (v := 24300) X dX1_init_449 (by decide) ?_
  refine v_newI X hd hle 0 rfl rfl rfl (fun _ z => by cases z) (by decide) q317 dX1_init_452 (fun q33 h hd => ?_)
  refine v_put (v := .ref q33) X hd fp_X1_166_i rfl rfl dX1_init_454 (fun h hd => ?_)
  refine v_aload_n X dX1_init_457 0 0 rfl rfl ?_
  refine v_bipush (v := 100) X dX1_init_458 (by decide) ?_
  refine v_newI X hd hle 3 rfl rfl rfl (fun _ z => by cases z) (by decide) q487 dX1_init_460 (fun q34 h hd => ?_)
  refine v_put (v := .ref q34) X hd fp_X1_169_i rfl rfl dX1_init_462 (fun h hd => ?_)
  refine v_aload_n X dX1_init_465 0 0 rfl rfl ?_
  refine v_new X hd hle nw_X1_173 dX1_init_466 (fun q35 h hd => ?_)
  refine v_dup X dX1_init_469 rfl ?_
  refine v_aload_n X dX1_init_470 0 0 rfl rfl ?_
  refine v_callI X hd hle (ct_X9_init _ q35 t) q454 q119 q452 q453 rfl dn_X9_init rfl ⟨by decide, by decide⟩ rfl (Nat.le_of_ble_eq_true rfl) dX1_init_471 (fun v36 h hd => ?_)
  show V K 1 h 474 [(0, .ref t)] [.ref q35, .ref t]
  refine v_put (v := .ref q35) X hd fp_X1_176_i rfl rfl dX1_init_474 (fun h hd => ?_)
  refine v_aload_n X dX1_init_477 0 0 rfl rfl ?_
  refine v_iconst (v := 2) X dX1_init_478 (by decide) ?_
  refine v_newR X hd hle 7 rfl q251 (by decide) dX1_init_479 (fun q37 h hd => ?_)
  refine v_put (v := .ref q37) X hd fp_X1_180_i rfl rfl dX1_init_482 (fun h hd => ?_)
  refine v_aload_n X dX1_init_485 0 0 rfl rfl ?_
  refine v_iconst (v := 2) X dX1_init_486 (by decide) ?_
  refine v_newR X hd hle 8 rfl q358 (by decide) dX1_init_487 (fun q38 h hd => ?_)
  refine v_put (v := .ref q38) X hd fp_X1_184_i rfl rfl dX1_init_490 (fun h hd => ?_)
  refine v_aload_n X dX1_init_493 0 0 rfl rfl ?_
  refine v_iconst (v := 2) X dX1_init_494 (by decide) ?_
  refine v_newR X hd hle 9 rfl q490 (by decide) dX1_init_495 (fun q39 h hd => ?_)
  refine v_put (v := .ref q39) X hd fp_X1_190_i rfl rfl dX1_init_498 (fun h hd => ?_)
  exact v_vret X hd ho dX1_init_501
