set_option maxRecDepth 100000
def dkwX1_house_3 : List UInt8 := [44, 180, 0, 234, 100, 172]
abbrev dktX1_house_3 : List UInt8 := dkwX1_house_3 ++ []
def dkwX1_house_2 : List UInt8 := [89, 183, 0, 99, 181, 0, 100, 42, 1, 181, 0, 227, 28, 172, 77, 42, 44, 180, 0, 231, 181, 0, 210, 2]
abbrev dktX1_house_2 : List UInt8 := dkwX1_house_2 ++ dktX1_house_3
def dkwX1_house_1 : List UInt8 := [182, 0, 216, 61, 42, 180, 0, 90, 43, 182, 0, 220, 42, 180, 0, 90, 3, 181, 0, 224, 42, 187, 0, 97]
abbrev dktX1_house_1 : List UInt8 := dkwX1_house_1 ++ dktX1_house_2
def dkwX1_house_0 : List UInt8 := [42, 182, 0, 207, 42, 3, 181, 0, 210, 187, 0, 213, 89, 183, 0, 215, 76, 42, 180, 0, 109, 43]
abbrev dktX1_house_0 : List UInt8 := dkwX1_house_0 ++ dktX1_house_1
theorem dksX1_house_0 : cX1_house.data.toList.drop 0 = dktX1_house_0 := by decide +kernel
theorem dksX1_house_1 : cX1_house.data.toList.drop 22 = dktX1_house_1 := dk_seg dksX1_house_0 22 rfl rfl
theorem dksX1_house_2 : cX1_house.data.toList.drop 46 = dktX1_house_2 := dk_seg dksX1_house_1 24 rfl rfl
theorem dksX1_house_3 : cX1_house.data.toList.drop 70 = dktX1_house_3 := dk_seg dksX1_house_2 24 rfl rfl
theorem dX1_house_0 : decode cX1_house 0 = .ok (.aload_n 0, 1) := dk_42 (dk_at dksX1_house_0 0 rfl rfl)
theorem dX1_house_1 : decode cX1_house 1 = .ok (.invokevirtual 207, 3) := dk_182 0 207 (dk_at dksX1_house_0 1 rfl rfl)
theorem dX1_house_4 : decode cX1_house 4 = .ok (.aload_n 0, 1) := dk_42 (dk_at dksX1_house_0 4 rfl rfl)
theorem dX1_house_5 : decode cX1_house 5 = .ok (.iconst 0, 1) := dk_3 (dk_at dksX1_house_0 5 rfl rfl)
theorem dX1_house_6 : decode cX1_house 6 = .ok (.putfield 210, 3) := dk_181 0 210 (dk_at dksX1_house_0 6 rfl rfl)
theorem dX1_house_9 : decode cX1_house 9 = .ok (.new 213, 3) := dk_187 0 213 (dk_at dksX1_house_0 9 rfl rfl)
theorem dX1_house_12 : decode cX1_house 12 = .ok (.dup, 1) := dk_89 (dk_at dksX1_house_0 12 rfl rfl)
theorem dX1_house_13 : decode cX1_house 13 = .ok (.invokespecial 215, 3) := dk_183 0 215 (dk_at dksX1_house_0 13 rfl rfl)
theorem dX1_house_16 : decode cX1_house 16 = .ok (.astore_n 1, 1) := dk_76 (dk_at dksX1_house_0 16 rfl rfl)
theorem dX1_house_17 : decode cX1_house 17 = .ok (.aload_n 0, 1) := dk_42 (dk_at dksX1_house_0 17 rfl rfl)
theorem dX1_house_18 : decode cX1_house 18 = .ok (.getfield 109, 3) := dk_180 0 109 (dk_at dksX1_house_0 18 rfl rfl)
theorem dX1_house_21 : decode cX1_house 21 = .ok (.aload_n 1, 1) := dk_43 (dk_at dksX1_house_0 21 rfl rfl)
theorem dX1_house_22 : decode cX1_house 22 = .ok (.invokevirtual 216, 3) := dk_182 0 216 (dk_at dksX1_house_1 0 rfl rfl)
theorem dX1_house_25 : decode cX1_house 25 = .ok (.istore_n 2, 1) := dk_61 (dk_at dksX1_house_1 3 rfl rfl)
theorem dX1_house_26 : decode cX1_house 26 = .ok (.aload_n 0, 1) := dk_42 (dk_at dksX1_house_1 4 rfl rfl)
theorem dX1_house_27 : decode cX1_house 27 = .ok (.getfield 90, 3) := dk_180 0 90 (dk_at dksX1_house_1 5 rfl rfl)
theorem dX1_house_30 : decode cX1_house 30 = .ok (.aload_n 1, 1) := dk_43 (dk_at dksX1_house_1 8 rfl rfl)
theorem dX1_house_31 : decode cX1_house 31 = .ok (.invokevirtual 220, 3) := dk_182 0 220 (dk_at dksX1_house_1 9 rfl rfl)
theorem dX1_house_34 : decode cX1_house 34 = .ok (.aload_n 0, 1) := dk_42 (dk_at dksX1_house_1 12 rfl rfl)
theorem dX1_house_35 : decode cX1_house 35 = .ok (.getfield 90, 3) := dk_180 0 90 (dk_at dksX1_house_1 13 rfl rfl)
theorem dX1_house_38 : decode cX1_house 38 = .ok (.iconst 0, 1) := dk_3 (dk_at dksX1_house_1 16 rfl rfl)
theorem dX1_house_39 : decode cX1_house 39 = .ok (.putfield 224, 3) := dk_181 0 224 (dk_at dksX1_house_1 17 rfl rfl)
theorem dX1_house_42 : decode cX1_house 42 = .ok (.aload_n 0, 1) := dk_42 (dk_at dksX1_house_1 20 rfl rfl)
theorem dX1_house_43 : decode cX1_house 43 = .ok (.new 97, 3) := dk_187 0 97 (dk_at dksX1_house_1 21 rfl rfl)
theorem dX1_house_46 : decode cX1_house 46 = .ok (.dup, 1) := dk_89 (dk_at dksX1_house_2 0 rfl rfl)
theorem dX1_house_47 : decode cX1_house 47 = .ok (.invokespecial 99, 3) := dk_183 0 99 (dk_at dksX1_house_2 1 rfl rfl)
theorem dX1_house_50 : decode cX1_house 50 = .ok (.putfield 100, 3) := dk_181 0 100 (dk_at dksX1_house_2 4 rfl rfl)
theorem dX1_house_53 : decode cX1_house 53 = .ok (.aload_n 0, 1) := dk_42 (dk_at dksX1_house_2 7 rfl rfl)
theorem dX1_house_54 : decode cX1_house 54 = .ok (.aconst_null, 1) := dk_1 (dk_at dksX1_house_2 8 rfl rfl)
theorem dX1_house_55 : decode cX1_house 55 = .ok (.putfield 227, 3) := dk_181 0 227 (dk_at dksX1_house_2 9 rfl rfl)
theorem dX1_house_58 : decode cX1_house 58 = .ok (.iload_n 2, 1) := dk_28 (dk_at dksX1_house_2 12 rfl rfl)
theorem dX1_house_59 : decode cX1_house 59 = .ok (.ireturn, 1) := dk_172 (dk_at dksX1_house_2 13 rfl rfl)
theorem dX1_house_60 : decode cX1_house 60 = .ok (.astore_n 2, 1) := dk_77 (dk_at dksX1_house_2 14 rfl rfl)
theorem dX1_house_61 : decode cX1_house 61 = .ok (.aload_n 0, 1) := dk_42 (dk_at dksX1_house_2 15 rfl rfl)
theorem dX1_house_62 : decode cX1_house 62 = .ok (.aload_n 2, 1) := dk_44 (dk_at dksX1_house_2 16 rfl rfl)
theorem dX1_house_63 : decode cX1_house 63 = .ok (.getfield 231, 3) := dk_180 0 231 (dk_at dksX1_house_2 17 rfl rfl)
theorem dX1_house_66 : decode cX1_house 66 = .ok (.putfield 210, 3) := dk_181 0 210 (dk_at dksX1_house_2 20 rfl rfl)
theorem dX1_house_69 : decode cX1_house 69 = .ok (.iconst (-1), 1) := dk_2 (dk_at dksX1_house_2 23 rfl rfl)
theorem dX1_house_70 : decode cX1_house 70 = .ok (.aload_n 2, 1) := dk_44 (dk_at dksX1_house_3 0 rfl rfl)
theorem dX1_house_71 : decode cX1_house 71 = .ok (.getfield 234, 3) := dk_180 0 234 (dk_at dksX1_house_3 1 rfl rfl)
theorem dX1_house_74 : decode cX1_house 74 = .ok (.isub, 1) := dk_100 (dk_at dksX1_house_3 4 rfl rfl)
theorem dX1_house_75 : decode cX1_house 75 = .ok (.ireturn, 1) := dk_172 (dk_at dksX1_house_3 5 rfl rfl)
theorem fl_X1_109 : gFl "BitingDoors" 109 [0] 12 := by
  intro args s hts hN ci hc
  simp only [List.mem_cons, List.not_mem_nil, or_false] at hc
  subst hc
  exact ⟨RX1, TX1, 46, "BitingDoors", gCl_X1, in_X1, by decide, Or.inl (hts _ q513), fun _ h => h⟩
theorem fl_X1_231 : gFl "BitingDoors" 231 [1] 6 := by
  intro args s hts hN ci hc
  simp only [List.mem_cons, List.not_mem_nil, or_false] at hc
  subst hc
  exact ⟨RX2, TX2, 8, "BitingDoors$Fault", gCl_X2, in_X2, by decide, Or.inl (hts _ q201), fun _ h => h⟩
theorem fl_X1_234 : gFl "BitingDoors" 234 [1] 7 := by
  intro args s hts hN ci hc
  simp only [List.mem_cons, List.not_mem_nil, or_false] at hc
  subst hc
  exact ⟨RX2, TX2, 8, "BitingDoors$Fault", gCl_X2, in_X2, by decide, Or.inl (hts _ q203), fun _ h => h⟩
theorem fp_X1_210 {nm : String} : gFp "BitingDoors" nm 210 [0] 14 .int := by
  intro args s hts hN ci hc
  simp only [List.mem_cons, List.not_mem_nil, or_false] at hc
  subst hc
  exact ⟨RX1, TX1, 46, "BitingDoors", gCl_X1, in_X1, by decide, Or.inl ⟨rfl, Or.inl (hts _ q515)⟩, fun _ h => h, rfl, fun D tys hK => gap_X1 hts hK⟩
theorem fp_X1_224 {nm : String} : gFp "BitingDoors" nm 224 [2] 4 .int := by
  intro args s hts hN ci hc
  simp only [List.mem_cons, List.not_mem_nil, or_false] at hc
  subst hc
  exact ⟨RX3, TX3, 6, "BitingDoors$Walker", gCl_X3, in_X3, by decide, Or.inl ⟨rfl, Or.inr ⟨"BitingDoors", va_Nw.use rfl (hN.1 ("BitingDoors", 224, "BitingDoors$Walker", "minutes", "I", "BitingDoors") (List.mem_of_getElem? (i := 11) rfl))⟩⟩, fun _ h => h, rfl, fun D tys hK => gap_X3 hts hK⟩
theorem nw_X1_213 : gNw "BitingDoors" 213 3 9 [.null, .null, .null, .null, .int 0, .int 0, .int 0, .int 0, .int 0] := ⟨RX4, TX4, tyX4, gCl_X4, in_X4, tyX4_ok, q660, q258, q114, by decide, rfl⟩
theorem nw_X1_97 : gNw "BitingDoors" 97 4 2 [.null, .int 0] := ⟨RX5, TX5, tyX5, gCl_X5, in_X5, tyX5_ok, q358, q359, q115, by decide, rfl⟩
theorem dn_X1_house : yX1_house.cls ≠ "java/lang/invoke/MethodHandle" ∧ yX1_house.cls ≠ "java/lang/invoke/VarHandle" ∧ (parseMethodDescriptor yX1_house.desc).map (fun d => d.parameters.length) = some 0 := by decide +kernel
noncomputable def M_X1_house (t : Nat) : Mo Int32 := Mo.bind (chk [0] t) (fun _ => Mo.bind (M_X1_taken t) (fun v1 => Mo.bind (pF [0] t 14 (.int 0)) (fun _ => Mo.bind (nw 3 9 [.null, .null, .null, .null, .int 0, .int 0, .int 0, .int 0, .int 0]) (fun q2 => Mo.bind (M_X4_init q2) (fun v3 => Mo.bind (gR [0] t 12) (fun v4 => Mo.bind (M_X7_read v4 q2) (fun w => Mo.cs w (fun b => Mo.bind (chk [1] b) (fun _ => Mo.bind (gI [1] b 6) (fun v11 => Mo.bind (pF [0] t 14 (.int v11)) (fun _ => Mo.bind (gI [1] b 7) (fun v12 => Mo.pure ((-1) - v12)))))) (fun v5 => Mo.bind (gR [0] t 9) (fun v6 => Mo.bind (M_X3_begin v6 q2) (fun v7 => Mo.bind (gR [0] t 9) (fun v8 => Mo.bind (pF [2] v8 4 (.int 0)) (fun _ => Mo.bind (nw 4 2 [.null, .int 0]) (fun q9 => Mo.bind (M_X5_init q9) (fun v10 => Mo.bind (pF [0] t 11 (.ref q9)) (fun _ => Mo.bind (pF [0] t 42 (.null)) (fun _ => Mo.pure v5))))))))))))))))
set_option maxHeartbeats 4000000 in
theorem ct_X1_house (G : gG) (t : Nat) : gCtW G yX1_house cX1_house 3 (some .int) [(17, 59, 60, 13)] 10 222 [.ref t] (M_X1_house t) (fun x : Int32 => some (.int x)) := by
  refine gCtW.of (by decide) (Nat.le_of_ble_eq_true rfl) (fun K r hG X hex hd ho => ?_)
  subst hG
  have X : gX K cX1_house 3 "BitingDoors" "house" (some .int) 10 222 := X
  have hle : gLe (kh1 K) (kh1 K) := gLe.rf
  show V K 3 (kh0 K) 0 [(0, .ref t)] []
  generalize kh0 K = h at hd ⊢
  unfold M_X1_house at hd
  obtain ⟨-, hd⟩ := chk_some hd
  refine v_aload_n X dX1_house_0 0 0 rfl rfl ?_
  refine v_callV X hd hle (ct_X1_taken _ t) gCl_X1 (lw_V q656 q658 qs2 q109 q659) ⟨rfl, dn_X1_taken⟩ rfl ⟨by decide, by decide⟩ rfl (Nat.le_of_ble_eq_true rfl) dX1_house_1 (fun v1 h hd => ?_)
  show V K 3 h 4 [(0, .ref t)] []
  refine v_aload_n X dX1_house_4 0 0 rfl rfl ?_
  refine v_iconst (v := 0) X dX1_house_5 (by decide) ?_
  refine v_put (v := .int 0) X hd fp_X1_210 rfl rfl dX1_house_6 (fun h hd => ?_)
  refine v_new X hd hle nw_X1_213 dX1_house_9 (fun q2 h hd => ?_)
  refine v_dup X dX1_house_12 rfl ?_
  refine v_callI X hd hle (ct_X4_init _ q2) q261 q114 q661 q260 rfl dn_X4_init rfl ⟨by decide, by decide⟩ rfl (Nat.le_of_ble_eq_true rfl) dX1_house_13 (fun v3 h hd => ?_)
  show V K 3 h 16 [(0, .ref t)] [.ref q2]
  refine v_astore_n (lv2 := [(1, .ref q2), (0, .ref t)]) X dX1_house_16 1 rfl (by decide) rfl ?_
  refine v_aload_n X dX1_house_17 1 0 rfl rfl ?_
  refine v_getR X hd fl_X1_109 dX1_house_18 (fun v4 hd => ?_)
  refine v_aload_n X dX1_house_21 0 1 rfl rfl ?_
  refine v_callVX X hd hle (ct_X7_read _ v4 q2) gCl_X7 q662 q663 q664 q117 q665 dn_X7_read rfl ⟨by decide, by decide⟩ rfl (Nat.le_of_ble_eq_true rfl) dX1_house_22 (fun v5 h hd => ?_) (fun b h hd => ?_)
  · show V K 3 h 25 [(1, .ref q2), (0, .ref t)] [.int v5]
    have hd := cs_r hd
    refine v_istore_n (lv2 := [(2, .int v5), (1, .ref q2), (0, .ref t)]) X dX1_house_25 2 rfl (by decide) rfl ?_
    refine v_aload_n X dX1_house_26 2 0 rfl rfl ?_
    refine v_getR X hd fl_X1_90 dX1_house_27 (fun v6 hd => ?_)
    refine v_aload_n X dX1_house_30 1 1 rfl rfl ?_
    refine v_callV X hd hle (ct_X3_begin _ v6 q2) gCl_X3 (lw_V q1007 q1008 q1009 q113 q1010) ⟨rfl, dn_X3_begin⟩ rfl ⟨by decide, by decide⟩ rfl (Nat.le_of_ble_eq_true rfl) dX1_house_31 (fun v7 h hd => ?_)
    show V K 3 h 34 [(2, .int v5), (1, .ref q2), (0, .ref t)] []
    refine v_aload_n X dX1_house_34 2 0 rfl rfl ?_
    refine v_getR X hd fl_X1_90 dX1_house_35 (fun v8 hd => ?_)
    refine v_iconst (v := 0) X dX1_house_38 (by decide) ?_
    refine v_put (v := .int 0) X hd fp_X1_224 rfl rfl dX1_house_39 (fun h hd => ?_)
    refine v_aload_n X dX1_house_42 2 0 rfl rfl ?_
    refine v_new X hd hle nw_X1_97 dX1_house_43 (fun q9 h hd => ?_)
    refine v_dup X dX1_house_46 rfl ?_
    refine v_callIN (host := "BitingDoors") X hd hle (ct_X5_init _ q9) (List.mem_of_getElem? (i := 1) rfl) q362 q115 q361 rfl dn_X5_init rfl ⟨by decide, by decide⟩ rfl (Nat.le_of_ble_eq_true rfl) dX1_house_47 (fun v10 h hd => ?_)
    show V K 3 h 50 [(2, .int v5), (1, .ref q2), (0, .ref t)] [.ref q9, .ref t]
    refine v_put (v := .ref q9) X hd fp_X1_100 rfl rfl dX1_house_50 (fun h hd => ?_)
    refine v_aload_n X dX1_house_53 2 0 rfl rfl ?_
    refine v_null X dX1_house_54 ?_
    refine v_put (v := .null) X hd fp_X1_227 rfl rfl dX1_house_55 (fun h hd => ?_)
    refine v_iload_n X dX1_house_58 0 2 rfl rfl ?_
    exact v_iret X hd ho dX1_house_59
  · have hd := cs_l hd
    obtain ⟨⟨o, hb, ho2⟩, hd⟩ := chk_some hd
    refine vx_catch X hex ⟨by decide, by decide⟩ (by decide) q154 (fun H w => gRecv X w gCl_X2 hb (by simpa using ho2)) ?_
    show V K 3 h 60 [(1, .ref q2), (0, .ref t)] [.ref b]
    refine v_astore_n (lv2 := [(2, .ref b), (1, .ref q2), (0, .ref t)]) X dX1_house_60 2 rfl (by decide) rfl ?_
    refine v_aload_n X dX1_house_61 2 0 rfl rfl ?_
    refine v_aload_n X dX1_house_62 0 2 rfl rfl ?_
    refine v_getI X hd fl_X1_231 dX1_house_63 (fun v11 hd => ?_)
    refine v_put (v := .int v11) X hd fp_X1_210 rfl rfl dX1_house_66 (fun h hd => ?_)
    refine v_iconst (v := (-1)) X dX1_house_69 (by decide) ?_
    refine v_aload_n X dX1_house_70 0 2 rfl rfl ?_
    refine v_getI X hd fl_X1_234 dX1_house_71 (fun v12 hd => ?_)
    refine v_isub X dX1_house_74 ?_
    exact v_iret X hd ho dX1_house_75
def dkwX1_day_1 : List UInt8 := [180, 0, 240, 172, 76, 42, 43, 180, 0, 231, 181, 0, 210, 2, 43, 180, 0, 234, 100, 172]
abbrev dktX1_day_1 : List UInt8 := dkwX1_day_1 ++ []
def dkwX1_day_0 : List UInt8 := [42, 182, 0, 207, 42, 3, 181, 0, 210, 42, 42, 180, 0, 116, 182, 0, 237, 181, 0, 100, 42, 180, 0, 100]
abbrev dktX1_day_0 : List UInt8 := dkwX1_day_0 ++ dktX1_day_1
theorem dksX1_day_0 : cX1_day.data.toList.drop 0 = dktX1_day_0 := by decide +kernel
theorem dksX1_day_1 : cX1_day.data.toList.drop 24 = dktX1_day_1 := dk_seg dksX1_day_0 24 rfl rfl
theorem dX1_day_0 : decode cX1_day 0 = .ok (.aload_n 0, 1) := dk_42 (dk_at dksX1_day_0 0 rfl rfl)
theorem dX1_day_1 : decode cX1_day 1 = .ok (.invokevirtual 207, 3) := dk_182 0 207 (dk_at dksX1_day_0 1 rfl rfl)
theorem dX1_day_4 : decode cX1_day 4 = .ok (.aload_n 0, 1) := dk_42 (dk_at dksX1_day_0 4 rfl rfl)
theorem dX1_day_5 : decode cX1_day 5 = .ok (.iconst 0, 1) := dk_3 (dk_at dksX1_day_0 5 rfl rfl)
theorem dX1_day_6 : decode cX1_day 6 = .ok (.putfield 210, 3) := dk_181 0 210 (dk_at dksX1_day_0 6 rfl rfl)
theorem dX1_day_9 : decode cX1_day 9 = .ok (.aload_n 0, 1) := dk_42 (dk_at dksX1_day_0 9 rfl rfl)
theorem dX1_day_10 : decode cX1_day 10 = .ok (.aload_n 0, 1) := dk_42 (dk_at dksX1_day_0 10 rfl rfl)
theorem dX1_day_11 : decode cX1_day 11 = .ok (.getfield 116, 3) := dk_180 0 116 (dk_at dksX1_day_0 11 rfl rfl)
theorem dX1_day_14 : decode cX1_day 14 = .ok (.invokevirtual 237, 3) := dk_182 0 237 (dk_at dksX1_day_0 14 rfl rfl)
theorem dX1_day_17 : decode cX1_day 17 = .ok (.putfield 100, 3) := dk_181 0 100 (dk_at dksX1_day_0 17 rfl rfl)
theorem dX1_day_20 : decode cX1_day 20 = .ok (.aload_n 0, 1) := dk_42 (dk_at dksX1_day_0 20 rfl rfl)
theorem dX1_day_21 : decode cX1_day 21 = .ok (.getfield 100, 3) := dk_180 0 100 (dk_at dksX1_day_0 21 rfl rfl)
theorem dX1_day_24 : decode cX1_day 24 = .ok (.getfield 240, 3) := dk_180 0 240 (dk_at dksX1_day_1 0 rfl rfl)
theorem dX1_day_27 : decode cX1_day 27 = .ok (.ireturn, 1) := dk_172 (dk_at dksX1_day_1 3 rfl rfl)
theorem dX1_day_28 : decode cX1_day 28 = .ok (.astore_n 1, 1) := dk_76 (dk_at dksX1_day_1 4 rfl rfl)
theorem dX1_day_29 : decode cX1_day 29 = .ok (.aload_n 0, 1) := dk_42 (dk_at dksX1_day_1 5 rfl rfl)
theorem dX1_day_30 : decode cX1_day 30 = .ok (.aload_n 1, 1) := dk_43 (dk_at dksX1_day_1 6 rfl rfl)
theorem dX1_day_31 : decode cX1_day 31 = .ok (.getfield 231, 3) := dk_180 0 231 (dk_at dksX1_day_1 7 rfl rfl)
theorem dX1_day_34 : decode cX1_day 34 = .ok (.putfield 210, 3) := dk_181 0 210 (dk_at dksX1_day_1 10 rfl rfl)
theorem dX1_day_37 : decode cX1_day 37 = .ok (.iconst (-1), 1) := dk_2 (dk_at dksX1_day_1 13 rfl rfl)
theorem dX1_day_38 : decode cX1_day 38 = .ok (.aload_n 1, 1) := dk_43 (dk_at dksX1_day_1 14 rfl rfl)
theorem dX1_day_39 : decode cX1_day 39 = .ok (.getfield 234, 3) := dk_180 0 234 (dk_at dksX1_day_1 15 rfl rfl)
theorem dX1_day_42 : decode cX1_day 42 = .ok (.isub, 1) := dk_100 (dk_at dksX1_day_1 18 rfl rfl)
theorem dX1_day_43 : decode cX1_day 43 = .ok (.ireturn, 1) := dk_172 (dk_at dksX1_day_1 19 rfl rfl)
theorem fl_X1_116 : gFl "BitingDoors" 116 [0] 13 := by
  intro args s hts hN ci hc
  simp only [List.mem_cons, List.not_mem_nil, or_false] at hc
  subst hc
  exact ⟨RX1, TX1, 46, "BitingDoors", gCl_X1, in_X1, by decide, Or.inl (hts _ q514), fun _ h => h⟩
theorem dn_X1_day : yX1_day.cls ≠ "java/lang/invoke/MethodHandle" ∧ yX1_day.cls ≠ "java/lang/invoke/VarHandle" ∧ (parseMethodDescriptor yX1_day.desc).map (fun d => d.parameters.length) = some 0 := by decide +kernel
noncomputable def M_X1_day (t : Nat) : Mo Int32 := Mo.bind (chk [0] t) (fun _ => Mo.bind (M_X1_taken t) (fun v1 => Mo.bind (pF [0] t 14 (.int 0)) (fun _ => Mo.bind (gR [0] t 13) (fun v2 => Mo.bind (M_X8_read v2) (fun w => Mo.cs w (fun b => Mo.bind (chk [1] b) (fun _ => Mo.bind (gI [1] b 6) (fun v6 => Mo.bind (pF [0] t 14 (.int v6)) (fun _ => Mo.bind (gI [1] b 7) (fun v7 => Mo.pure ((-1) - v7)))))) (fun v3 => Mo.bind (pF [0] t 11 (.ref v3)) (fun _ => Mo.bind (gR [0] t 11) (fun v4 => Mo.bind (gI [4] v4 1) (fun v5 => Mo.pure v5)))))))))
set_option maxHeartbeats 4000000 in
theorem ct_X1_day (G : gG) (t : Nat) : gCtW G yX1_day cX1_day 2 (some .int) [(9, 27, 28, 13)] 10 215 [.ref t] (M_X1_day t) (fun x : Int32 => some (.int x)) := by
  refine gCtW.of (by decide) (Nat.le_of_ble_eq_true rfl) (fun K r hG X hex hd ho => ?_)
  subst hG
  have X : gX K cX1_day 2 "BitingDoors" "day" (some .int) 10 215 := X
  have hle : gLe (kh1 K) (kh1 K) := gLe.rf
  show V K 2 (kh0 K) 0 [(0, .ref t)] []
  generalize kh0 K = h at hd ⊢
  unfold M_X1_day at hd
  obtain ⟨-, hd⟩ := chk_some hd
  refine v_aload_n X dX1_day_0 0 0 rfl rfl ?_
  refine v_callV X hd hle (ct_X1_taken _ t) gCl_X1 (lw_V q656 q658 qs2 q109 q659) ⟨rfl, dn_X1_taken⟩ rfl ⟨by decide, by decide⟩ rfl (Nat.le_of_ble_eq_true rfl) dX1_day_1 (fun v1 h hd => ?_)
  show V K 2 h 4 [(0, .ref t)] []
  refine v_aload_n X dX1_day_4 0 0 rfl rfl ?_
  refine v_iconst (v := 0) X dX1_day_5 (by decide) ?_
  refine v_put (v := .int 0) X hd fp_X1_210 rfl rfl dX1_day_6 (fun h hd => ?_)
  refine v_aload_n X dX1_day_9 0 0 rfl rfl ?_
  refine v_aload_n X dX1_day_10 0 0 rfl rfl ?_
  refine v_getR X hd fl_X1_116 dX1_day_11 (fun v2 hd => ?_)
  refine v_callVX X hd hle (ct_X8_read _ v2) gCl_X8 q1019 q1020 q1021 q118 q1022 dn_X8_read rfl ⟨by decide, by decide⟩ rfl (Nat.le_of_ble_eq_true rfl) dX1_day_14 (fun v3 h hd => ?_) (fun b h hd => ?_)
  · show V K 2 h 17 [(0, .ref t)] [.ref v3, .ref t]
    have hd := cs_r hd
    refine v_put (v := .ref v3) X hd fp_X1_100 rfl rfl dX1_day_17 (fun h hd => ?_)
    refine v_aload_n X dX1_day_20 0 0 rfl rfl ?_
    refine v_getR X hd fl_X1_100 dX1_day_21 (fun v4 hd => ?_)
    refine v_getI X hd fl_X1_240 dX1_day_24 (fun v5 hd => ?_)
    exact v_iret X hd ho dX1_day_27
  · have hd := cs_l hd
    obtain ⟨⟨o, hb, ho2⟩, hd⟩ := chk_some hd
    refine vx_catch X hex ⟨by decide, by decide⟩ (by decide) q154 (fun H w => gRecv X w gCl_X2 hb (by simpa using ho2)) ?_
    show V K 2 h 28 [(0, .ref t)] [.ref b]
    refine v_astore_n (lv2 := [(1, .ref b), (0, .ref t)]) X dX1_day_28 1 rfl (by decide) rfl ?_
    refine v_aload_n X dX1_day_29 1 0 rfl rfl ?_
    refine v_aload_n X dX1_day_30 0 1 rfl rfl ?_
    refine v_getI X hd fl_X1_231 dX1_day_31 (fun v6 hd => ?_)
    refine v_put (v := .int v6) X hd fp_X1_210 rfl rfl dX1_day_34 (fun h hd => ?_)
    refine v_iconst (v := (-1)) X dX1_day_37 (by decide) ?_
    refine v_aload_n X dX1_day_38 0 1 rfl rfl ?_
    refine v_getI X hd fl_X1_234 dX1_day_39 (fun v7 hd => ?_)
    refine v_isub X dX1_day_42 ?_
    exact v_iret X hd ho dX1_day_43
def dkwX1_sentence_1 : List UInt8 := [180, 1, 216, 172, 76, 42, 43, 180, 0, 231, 181, 0, 210, 2, 43, 180, 0, 234, 100, 172]
abbrev dktX1_sentence_1 : List UInt8 := dkwX1_sentence_1 ++ []
def dkwX1_sentence_0 : List UInt8 := [42, 182, 0, 207, 42, 3, 181, 0, 210, 42, 42, 180, 0, 176, 182, 1, 213, 181, 0, 227, 42, 180, 0, 176]
abbrev dktX1_sentence_0 : List UInt8 := dkwX1_sentence_0 ++ dktX1_sentence_1
theorem dksX1_sentence_0 : cX1_sentence.data.toList.drop 0 = dktX1_sentence_0 := by decide +kernel
theorem dksX1_sentence_1 : cX1_sentence.data.toList.drop 24 = dktX1_sentence_1 := dk_seg dksX1_sentence_0 24 rfl rfl
theorem dX1_sentence_0 : decode cX1_sentence 0 = .ok (.aload_n 0, 1) := dk_42 (dk_at dksX1_sentence_0 0 rfl rfl)
theorem dX1_sentence_1 : decode cX1_sentence 1 = .ok (.invokevirtual 207, 3) := dk_182 0 207 (dk_at dksX1_sentence_0 1 rfl rfl)
theorem dX1_sentence_4 : decode cX1_sentence 4 = .ok (.aload_n 0, 1) := dk_42 (dk_at dksX1_sentence_0 4 rfl rfl)
theorem dX1_sentence_5 : decode cX1_sentence 5 = .ok (.iconst 0, 1) := dk_3 (dk_at dksX1_sentence_0 5 rfl rfl)
theorem dX1_sentence_6 : decode cX1_sentence 6 = .ok (.putfield 210, 3) := dk_181 0 210 (dk_at dksX1_sentence_0 6 rfl rfl)
theorem dX1_sentence_9 : decode cX1_sentence 9 = .ok (.aload_n 0, 1) := dk_42 (dk_at dksX1_sentence_0 9 rfl rfl)
theorem dX1_sentence_10 : decode cX1_sentence 10 = .ok (.aload_n 0, 1) := dk_42 (dk_at dksX1_sentence_0 10 rfl rfl)
theorem dX1_sentence_11 : decode cX1_sentence 11 = .ok (.getfield 176, 3) := dk_180 0 176 (dk_at dksX1_sentence_0 11 rfl rfl)
theorem dX1_sentence_14 : decode cX1_sentence 14 = .ok (.invokevirtual 469, 3) := dk_182 1 213 (dk_at dksX1_sentence_0 14 rfl rfl)
theorem dX1_sentence_17 : decode cX1_sentence 17 = .ok (.putfield 227, 3) := dk_181 0 227 (dk_at dksX1_sentence_0 17 rfl rfl)
theorem dX1_sentence_20 : decode cX1_sentence 20 = .ok (.aload_n 0, 1) := dk_42 (dk_at dksX1_sentence_0 20 rfl rfl)
theorem dX1_sentence_21 : decode cX1_sentence 21 = .ok (.getfield 176, 3) := dk_180 0 176 (dk_at dksX1_sentence_0 21 rfl rfl)
theorem dX1_sentence_24 : decode cX1_sentence 24 = .ok (.getfield 472, 3) := dk_180 1 216 (dk_at dksX1_sentence_1 0 rfl rfl)
theorem dX1_sentence_27 : decode cX1_sentence 27 = .ok (.ireturn, 1) := dk_172 (dk_at dksX1_sentence_1 3 rfl rfl)
theorem dX1_sentence_28 : decode cX1_sentence 28 = .ok (.astore_n 1, 1) := dk_76 (dk_at dksX1_sentence_1 4 rfl rfl)
theorem dX1_sentence_29 : decode cX1_sentence 29 = .ok (.aload_n 0, 1) := dk_42 (dk_at dksX1_sentence_1 5 rfl rfl)
theorem dX1_sentence_30 : decode cX1_sentence 30 = .ok (.aload_n 1, 1) := dk_43 (dk_at dksX1_sentence_1 6 rfl rfl)
theorem dX1_sentence_31 : decode cX1_sentence 31 = .ok (.getfield 231, 3) := dk_180 0 231 (dk_at dksX1_sentence_1 7 rfl rfl)
theorem dX1_sentence_34 : decode cX1_sentence 34 = .ok (.putfield 210, 3) := dk_181 0 210 (dk_at dksX1_sentence_1 10 rfl rfl)
theorem dX1_sentence_37 : decode cX1_sentence 37 = .ok (.iconst (-1), 1) := dk_2 (dk_at dksX1_sentence_1 13 rfl rfl)
theorem dX1_sentence_38 : decode cX1_sentence 38 = .ok (.aload_n 1, 1) := dk_43 (dk_at dksX1_sentence_1 14 rfl rfl)
theorem dX1_sentence_39 : decode cX1_sentence 39 = .ok (.getfield 234, 3) := dk_180 0 234 (dk_at dksX1_sentence_1 15 rfl rfl)
theorem dX1_sentence_42 : decode cX1_sentence 42 = .ok (.isub, 1) := dk_100 (dk_at dksX1_sentence_1 18 rfl rfl)
theorem dX1_sentence_43 : decode cX1_sentence 43 = .ok (.ireturn, 1) := dk_172 (dk_at dksX1_sentence_1 19 rfl rfl)
theorem fl_X1_176 : gFl "BitingDoors" 176 [0] 41 := by
  intro args s hts hN ci hc
  simp only [List.mem_cons, List.not_mem_nil, or_false] at hc
  subst hc
  exact ⟨RX1, TX1, 46, "BitingDoors", gCl_X1, in_X1, by decide, Or.inl (hts _ q542), fun _ h => h⟩
theorem fl_X1_472 : gFl "BitingDoors" 472 [7] 10 := by
  intro args s hts hN ci hc
  simp only [List.mem_cons, List.not_mem_nil, or_false] at hc
  subst hc
  exact ⟨RX9, TX9, 12, "BitingDoors$SentenceReader", gCl_X9, in_X9, by decide, Or.inr ⟨"BitingDoors", va_Nw.use rfl (hN.1 ("BitingDoors", 472, "BitingDoors$SentenceReader", "ones", "I", "BitingDoors") (List.mem_of_getElem? (i := 15) rfl))⟩, fun _ h => h⟩
theorem dn_X1_sentence : yX1_sentence.cls ≠ "java/lang/invoke/MethodHandle" ∧ yX1_sentence.cls ≠ "java/lang/invoke/VarHandle" ∧ (parseMethodDescriptor yX1_sentence.desc).map (fun d => d.parameters.length) = some 0 := by decide +kernel
noncomputable def M_X1_sentence (t : Nat) : Mo Int32 := Mo.bind (chk [0] t) (fun _ => Mo.bind (M_X1_taken t) (fun v1 => Mo.bind (pF [0] t 14 (.int 0)) (fun _ => Mo.bind (gR [0] t 41) (fun v2 => Mo.bind (M_X9_read v2) (fun w => Mo.cs w (fun b => Mo.bind (chk [1] b) (fun _ => Mo.bind (gI [1] b 6) (fun v6 => Mo.bind (pF [0] t 14 (.int v6)) (fun _ => Mo.bind (gI [1] b 7) (fun v7 => Mo.pure ((-1) - v7)))))) (fun v3 => Mo.bind (pF [0] t 42 (.ref v3)) (fun _ => Mo.bind (gR [0] t 41) (fun v4 => Mo.bind (gI [7] v4 10) (fun v5 => Mo.pure v5)))))))))
set_option maxHeartbeats 4000000 in
theorem ct_X1_sentence (G : gG) (t : Nat) : gCtW G yX1_sentence cX1_sentence 2 (some .int) [(9, 27, 28, 13)] 40 1024 [.ref t] (M_X1_sentence t) (fun x : Int32 => some (.int x)) := by
  refine gCtW.of (by decide) (Nat.le_of_ble_eq_true rfl) (fun K r hG X hex hd ho => ?_)
  subst hG
  have X : gX K cX1_sentence 2 "BitingDoors" "sentence" (some .int) 40 1024 := X
  have hle : gLe (kh1 K) (kh1 K) := gLe.rf
  show V K 2 (kh0 K) 0 [(0, .ref t)] []
  generalize kh0 K = h at hd ⊢
  unfold M_X1_sentence at hd
  obtain ⟨-, hd⟩ := chk_some hd
  refine v_aload_n X dX1_sentence_0 0 0 rfl rfl ?_
  refine v_callV X hd hle (ct_X1_taken _ t) gCl_X1 (lw_V q656 q658 qs2 q109 q659) ⟨rfl, dn_X1_taken⟩ rfl ⟨by decide, by decide⟩ rfl (Nat.le_of_ble_eq_true rfl) dX1_sentence_1 (fun v1 h hd => ?_)
  show V K 2 h 4 [(0, .ref t)] []
  refine v_aload_n X dX1_sentence_4 0 0 rfl rfl ?_
  refine v_iconst (v := 0) X dX1_sentence_5 (by decide) ?_
  refine v_put (v := .int 0) X hd fp_X1_210 rfl rfl dX1_sentence_6 (fun h hd => ?_)
  refine v_aload_n X dX1_sentence_9 0 0 rfl rfl ?_
  refine v_aload_n X dX1_sentence_10 0 0 rfl rfl ?_
  refine v_getR X hd fl_X1_176 dX1_sentence_11 (fun v2 hd => ?_)
  refine v_callVX X hd hle (ct_X9_read _ v2) gCl_X9 q1436 q1437 q1438 q119 q1439 dn_X9_read rfl ⟨by decide, by decide⟩ rfl (Nat.le_of_ble_eq_true rfl) dX1_sentence_14 (fun v3 h hd => ?_) (fun b h hd => ?_)
  · show V K 2 h 17 [(0, .ref t)] [.ref v3, .ref t]
    have hd := cs_r hd
    refine v_put (v := .ref v3) X hd fp_X1_227 rfl rfl dX1_sentence_17 (fun h hd => ?_)
    refine v_aload_n X dX1_sentence_20 0 0 rfl rfl ?_
    refine v_getR X hd fl_X1_176 dX1_sentence_21 (fun v4 hd => ?_)
    refine v_getI X hd fl_X1_472 dX1_sentence_24 (fun v5 hd => ?_)
    exact v_iret X hd ho dX1_sentence_27
  · have hd := cs_l hd
    obtain ⟨⟨o, hb, ho2⟩, hd⟩ := chk_some hd
    refine vx_catch X hex ⟨by decide, by decide⟩ (by decide) q154 (fun H w => gRecv X w gCl_X2 hb (by simpa using ho2)) ?_
    show V K 2 h 28 [(0, .ref t)] [.ref b]
    refine v_astore_n (lv2 := [(1, .ref b), (0, .ref t)]) X dX1_sentence_28 1 rfl (by decide) rfl ?_
    refine v_aload_n X dX1_sentence_29 1 0 rfl rfl ?_
    refine v_aload_n X dX1_sentence_30 0 1 rfl rfl ?_
    refine v_getI X hd fl_X1_231 dX1_sentence_31 (fun v6 hd => ?_)
    refine v_put (v := .int v6) X hd fp_X1_210 rfl rfl dX1_sentence_34 (fun h hd => ?_)
    refine v_iconst (v := (-1)) X dX1_sentence_37 (by decide) ?_
    refine v_aload_n X dX1_sentence_38 0 1 rfl rfl ?_
    refine v_getI X hd fl_X1_234 dX1_sentence_39 (fun v7 hd => ?_)
    refine v_isub X dX1_sentence_42 ?_
    exact v_iret X hd ho dX1_sentence_43
def dkwX1_door_5 : List UInt8 := [45, 180, 1, 35, 172, 45, 180, 1, 38, 172, 45, 180, 1, 40, 153, 0, 7, 4, 167, 0, 4, 3, 172]
abbrev dktX1_door_5 : List UInt8 := dkwX1_door_5 ++ []
def dkwX1_door_4 : List UInt8 := [180, 1, 29, 172, 42, 180, 0, 90, 180, 1, 30, 27, 46, 172, 42, 180, 0, 90, 180, 1, 33, 27, 46, 172]
abbrev dktX1_door_4 : List UInt8 := dkwX1_door_4 ++ dktX1_door_5
def dkwX1_door_3 : List UInt8 := [45, 180, 1, 18, 172, 45, 180, 1, 23, 172, 45, 180, 1, 26, 153, 0, 7, 4, 167, 0, 4, 3, 172, 45]
abbrev dktX1_door_3 : List UInt8 := dkwX1_door_3 ++ dktX1_door_4
def dkwX1_door_2 : List UInt8 := [170, 0, 0, 0, 0, 0, 105, 0, 0, 0, 0, 0, 0, 0, 7, 0, 0, 0, 47, 0, 0, 0, 52, 0, 0, 0, 57, 0, 0, 0, 70, 0, 0, 0, 75, 0, 0, 0, 85, 0, 0, 0, 95, 0, 0, 0, 100]
abbrev dktX1_door_2 : List UInt8 := dkwX1_door_2 ++ dktX1_door_3
def dkwX1_door_1 : List UInt8 := [184, 1, 11, 42, 27, 182, 1, 15, 78, 28]
abbrev dktX1_door_1 : List UInt8 := dkwX1_door_1 ++ dktX1_door_2
def dkwX1_door_0 : List UInt8 := [42, 27, 182, 1, 7, 153, 0, 17, 28, 3, 16, 8, 184, 0, 248, 153, 0, 7, 4, 167, 0, 4, 3]
abbrev dktX1_door_0 : List UInt8 := dkwX1_door_0 ++ dktX1_door_1
theorem dksX1_door_0 : cX1_door.data.toList.drop 0 = dktX1_door_0 := by decide +kernel
theorem dksX1_door_1 : cX1_door.data.toList.drop 23 = dktX1_door_1 := dk_seg dksX1_door_0 23 rfl rfl
theorem dksX1_door_2 : cX1_door.data.toList.drop 33 = dktX1_door_2 := dk_seg dksX1_door_1 10 rfl rfl
theorem dksX1_door_3 : cX1_door.data.toList.drop 80 = dktX1_door_3 := dk_seg dksX1_door_2 47 rfl rfl
theorem dksX1_door_4 : cX1_door.data.toList.drop 104 = dktX1_door_4 := dk_seg dksX1_door_3 24 rfl rfl
theorem dksX1_door_5 : cX1_door.data.toList.drop 128 = dktX1_door_5 := dk_seg dksX1_door_4 24 rfl rfl
theorem dX1_door_0 : decode cX1_door 0 = .ok (.aload_n 0, 1) := dk_42 (dk_at dksX1_door_0 0 rfl rfl)
theorem dX1_door_1 : decode cX1_door 1 = .ok (.iload_n 1, 1) := dk_27 (dk_at dksX1_door_0 1 rfl rfl)
theorem dX1_door_2 : decode cX1_door 2 = .ok (.invokevirtual 263, 3) := dk_182 1 7 (dk_at dksX1_door_0 2 rfl rfl)
theorem dX1_door_5 : decode cX1_door 5 = .ok (.ifCond .eq 17, 3) := dk_153 0 17 (dk_at dksX1_door_0 5 rfl rfl)
theorem dX1_door_8 : decode cX1_door 8 = .ok (.iload_n 2, 1) := dk_28 (dk_at dksX1_door_0 8 rfl rfl)
theorem dX1_door_9 : decode cX1_door 9 = .ok (.iconst 0, 1) := dk_3 (dk_at dksX1_door_0 9 rfl rfl)
theorem dX1_door_10 : decode cX1_door 10 = .ok (.bipush 8, 2) := dk_16 8 (dk_at dksX1_door_0 10 rfl rfl)
theorem dX1_door_12 : decode cX1_door 12 = .ok (.invokestatic 248, 3) := dk_184 0 248 (dk_at dksX1_door_0 12 rfl rfl)
theorem dX1_door_15 : decode cX1_door 15 = .ok (.ifCond .eq 7, 3) := dk_153 0 7 (dk_at dksX1_door_0 15 rfl rfl)
theorem dX1_door_18 : decode cX1_door 18 = .ok (.iconst 1, 1) := dk_4 (dk_at dksX1_door_0 18 rfl rfl)
theorem dX1_door_19 : decode cX1_door 19 = .ok (.goto 4, 3) := dk_167 0 4 (dk_at dksX1_door_0 19 rfl rfl)
theorem dX1_door_22 : decode cX1_door 22 = .ok (.iconst 0, 1) := dk_3 (dk_at dksX1_door_0 22 rfl rfl)
theorem dX1_door_23 : decode cX1_door 23 = .ok (.invokestatic 267, 3) := dk_184 1 11 (dk_at dksX1_door_1 0 rfl rfl)
theorem dX1_door_26 : decode cX1_door 26 = .ok (.aload_n 0, 1) := dk_42 (dk_at dksX1_door_1 3 rfl rfl)
theorem dX1_door_27 : decode cX1_door 27 = .ok (.iload_n 1, 1) := dk_27 (dk_at dksX1_door_1 4 rfl rfl)
theorem dX1_door_28 : decode cX1_door 28 = .ok (.invokevirtual 271, 3) := dk_182 1 15 (dk_at dksX1_door_1 5 rfl rfl)
theorem dX1_door_31 : decode cX1_door 31 = .ok (.astore_n 3, 1) := dk_78 (dk_at dksX1_door_1 8 rfl rfl)
theorem dX1_door_32 : decode cX1_door 32 = .ok (.iload_n 2, 1) := dk_28 (dk_at dksX1_door_1 9 rfl rfl)
theorem dX1_door_33 : decode cX1_door 33 = .ok (.tableswitch 105 0 7 #[47, 52, 57, 70, 75, 85, 95, 100], 47) := by decide +kernel
theorem dX1_door_80 : decode cX1_door 80 = .ok (.aload_n 3, 1) := dk_45 (dk_at dksX1_door_3 0 rfl rfl)
theorem dX1_door_81 : decode cX1_door 81 = .ok (.getfield 274, 3) := dk_180 1 18 (dk_at dksX1_door_3 1 rfl rfl)
theorem dX1_door_84 : decode cX1_door 84 = .ok (.ireturn, 1) := dk_172 (dk_at dksX1_door_3 4 rfl rfl)
theorem dX1_door_85 : decode cX1_door 85 = .ok (.aload_n 3, 1) := dk_45 (dk_at dksX1_door_3 5 rfl rfl)
theorem dX1_door_86 : decode cX1_door 86 = .ok (.getfield 279, 3) := dk_180 1 23 (dk_at dksX1_door_3 6 rfl rfl)
theorem dX1_door_89 : decode cX1_door 89 = .ok (.ireturn, 1) := dk_172 (dk_at dksX1_door_3 9 rfl rfl)
theorem dX1_door_90 : decode cX1_door 90 = .ok (.aload_n 3, 1) := dk_45 (dk_at dksX1_door_3 10 rfl rfl)
theorem dX1_door_91 : decode cX1_door 91 = .ok (.getfield 282, 3) := dk_180 1 26 (dk_at dksX1_door_3 11 rfl rfl)
theorem dX1_door_94 : decode cX1_door 94 = .ok (.ifCond .eq 7, 3) := dk_153 0 7 (dk_at dksX1_door_3 14 rfl rfl)
theorem dX1_door_97 : decode cX1_door 97 = .ok (.iconst 1, 1) := dk_4 (dk_at dksX1_door_3 17 rfl rfl)
theorem dX1_door_98 : decode cX1_door 98 = .ok (.goto 4, 3) := dk_167 0 4 (dk_at dksX1_door_3 18 rfl rfl)
theorem dX1_door_101 : decode cX1_door 101 = .ok (.iconst 0, 1) := dk_3 (dk_at dksX1_door_3 21 rfl rfl)
theorem dX1_door_102 : decode cX1_door 102 = .ok (.ireturn, 1) := dk_172 (dk_at dksX1_door_3 22 rfl rfl)
theorem dX1_door_103 : decode cX1_door 103 = .ok (.aload_n 3, 1) := dk_45 (dk_at dksX1_door_3 23 rfl rfl)
theorem dX1_door_104 : decode cX1_door 104 = .ok (.getfield 285, 3) := dk_180 1 29 (dk_at dksX1_door_4 0 rfl rfl)
theorem dX1_door_107 : decode cX1_door 107 = .ok (.ireturn, 1) := dk_172 (dk_at dksX1_door_4 3 rfl rfl)
theorem dX1_door_108 : decode cX1_door 108 = .ok (.aload_n 0, 1) := dk_42 (dk_at dksX1_door_4 4 rfl rfl)
theorem dX1_door_109 : decode cX1_door 109 = .ok (.getfield 90, 3) := dk_180 0 90 (dk_at dksX1_door_4 5 rfl rfl)
theorem dX1_door_112 : decode cX1_door 112 = .ok (.getfield 286, 3) := dk_180 1 30 (dk_at dksX1_door_4 8 rfl rfl)
theorem dX1_door_115 : decode cX1_door 115 = .ok (.iload_n 1, 1) := dk_27 (dk_at dksX1_door_4 11 rfl rfl)
theorem dX1_door_116 : decode cX1_door 116 = .ok (.iaload, 1) := dk_46 (dk_at dksX1_door_4 12 rfl rfl)
theorem dX1_door_117 : decode cX1_door 117 = .ok (.ireturn, 1) := dk_172 (dk_at dksX1_door_4 13 rfl rfl)
theorem dX1_door_118 : decode cX1_door 118 = .ok (.aload_n 0, 1) := dk_42 (dk_at dksX1_door_4 14 rfl rfl)
theorem dX1_door_119 : decode cX1_door 119 = .ok (.getfield 90, 3) := dk_180 0 90 (dk_at dksX1_door_4 15 rfl rfl)
theorem dX1_door_122 : decode cX1_door 122 = .ok (.getfield 289, 3) := dk_180 1 33 (dk_at dksX1_door_4 18 rfl rfl)
theorem dX1_door_125 : decode cX1_door 125 = .ok (.iload_n 1, 1) := dk_27 (dk_at dksX1_door_4 21 rfl rfl)
theorem dX1_door_126 : decode cX1_door 126 = .ok (.iaload, 1) := dk_46 (dk_at dksX1_door_4 22 rfl rfl)
theorem dX1_door_127 : decode cX1_door 127 = .ok (.ireturn, 1) := dk_172 (dk_at dksX1_door_4 23 rfl rfl)
theorem dX1_door_128 : decode cX1_door 128 = .ok (.aload_n 3, 1) := dk_45 (dk_at dksX1_door_5 0 rfl rfl)
theorem dX1_door_129 : decode cX1_door 129 = .ok (.getfield 291, 3) := dk_180 1 35 (dk_at dksX1_door_5 1 rfl rfl)
theorem dX1_door_132 : decode cX1_door 132 = .ok (.ireturn, 1) := dk_172 (dk_at dksX1_door_5 4 rfl rfl)
theorem dX1_door_133 : decode cX1_door 133 = .ok (.aload_n 3, 1) := dk_45 (dk_at dksX1_door_5 5 rfl rfl)
theorem dX1_door_134 : decode cX1_door 134 = .ok (.getfield 294, 3) := dk_180 1 38 (dk_at dksX1_door_5 6 rfl rfl)
theorem dX1_door_137 : decode cX1_door 137 = .ok (.ireturn, 1) := dk_172 (dk_at dksX1_door_5 9 rfl rfl)
theorem dX1_door_138 : decode cX1_door 138 = .ok (.aload_n 3, 1) := dk_45 (dk_at dksX1_door_5 10 rfl rfl)
theorem dX1_door_139 : decode cX1_door 139 = .ok (.getfield 296, 3) := dk_180 1 40 (dk_at dksX1_door_5 11 rfl rfl)
theorem dX1_door_142 : decode cX1_door 142 = .ok (.ifCond .eq 7, 3) := dk_153 0 7 (dk_at dksX1_door_5 14 rfl rfl)
theorem dX1_door_145 : decode cX1_door 145 = .ok (.iconst 1, 1) := dk_4 (dk_at dksX1_door_5 17 rfl rfl)
theorem dX1_door_146 : decode cX1_door 146 = .ok (.goto 4, 3) := dk_167 0 4 (dk_at dksX1_door_5 18 rfl rfl)
theorem dX1_door_149 : decode cX1_door 149 = .ok (.iconst 0, 1) := dk_3 (dk_at dksX1_door_5 21 rfl rfl)
theorem dX1_door_150 : decode cX1_door 150 = .ok (.ireturn, 1) := dk_172 (dk_at dksX1_door_5 22 rfl rfl)
theorem fl_X1_274 : gFl "BitingDoors" 274 [9] 1 := by
  intro args s hts hN ci hc
  simp only [List.mem_cons, List.not_mem_nil, or_false] at hc
  subst hc
  exact ⟨RX11, TX11, 12, "BitingDoors$Door", gCl_X11, in_X11, by decide, Or.inr ⟨"BitingDoors", va_Nw.use rfl (hN.1 ("BitingDoors", 274, "BitingDoors$Door", "x", "I", "BitingDoors") (List.mem_of_getElem? (i := 16) rfl))⟩, fun _ h => h⟩
theorem fl_X1_279 : gFl "BitingDoors" 279 [9] 2 := by
  intro args s hts hN ci hc
  simp only [List.mem_cons, List.not_mem_nil, or_false] at hc
  subst hc
  exact ⟨RX11, TX11, 12, "BitingDoors$Door", gCl_X11, in_X11, by decide, Or.inr ⟨"BitingDoors", va_Nw.use rfl (hN.1 ("BitingDoors", 279, "BitingDoors$Door", "y", "I", "BitingDoors") (List.mem_of_getElem? (i := 17) rfl))⟩, fun _ h => h⟩
theorem fl_X1_282 : gFl "BitingDoors" 282 [9] 4 := by
  intro args s hts hN ci hc
  simp only [List.mem_cons, List.not_mem_nil, or_false] at hc
  subst hc
  exact ⟨RX11, TX11, 12, "BitingDoors$Door", gCl_X11, in_X11, by decide, Or.inr ⟨"BitingDoors", va_Nw.use rfl (hN.1 ("BitingDoors", 282, "BitingDoors$Door", "across", "Z", "BitingDoors") (List.mem_of_getElem? (i := 19) rfl))⟩, fun _ h => h⟩
theorem fl_X1_285 : gFl "BitingDoors" 285 [9] 3 := by
  intro args s hts hN ci hc
  simp only [List.mem_cons, List.not_mem_nil, or_false] at hc
  subst hc
  exact ⟨RX11, TX11, 12, "BitingDoors$Door", gCl_X11, in_X11, by decide, Or.inr ⟨"BitingDoors", va_Nw.use rfl (hN.1 ("BitingDoors", 285, "BitingDoors$Door", "length", "I", "BitingDoors") (List.mem_of_getElem? (i := 18) rfl))⟩, fun _ h => h⟩
theorem fl_X1_291 : gFl "BitingDoors" 291 [9] 9 := by
  intro args s hts hN ci hc
  simp only [List.mem_cons, List.not_mem_nil, or_false] at hc
  subst hc
  exact ⟨RX11, TX11, 12, "BitingDoors$Door", gCl_X11, in_X11, by decide, Or.inr ⟨"BitingDoors", va_Nw.use rfl (hN.1 ("BitingDoors", 291, "BitingDoors$Door", "told", "I", "BitingDoors") (List.mem_of_getElem? (i := 22) rfl))⟩, fun _ h => h⟩
theorem fl_X1_296 : gFl "BitingDoors" 296 [9] 11 := by
  intro args s hts hN ci hc
  simp only [List.mem_cons, List.not_mem_nil, or_false] at hc
  subst hc
  exact ⟨RX11, TX11, 12, "BitingDoors$Door", gCl_X11, in_X11, by decide, Or.inr ⟨"BitingDoors", va_Nw.use rfl (hN.1 ("BitingDoors", 296, "BitingDoors$Door", "whole", "Z", "BitingDoors") (List.mem_of_getElem? (i := 24) rfl))⟩, fun _ h => h⟩
theorem dn_X1_door : yX1_door.cls ≠ "java/lang/invoke/MethodHandle" ∧ yX1_door.cls ≠ "java/lang/invoke/VarHandle" ∧ (parseMethodDescriptor yX1_door.desc).map (fun d => d.parameters.length) = some 2 := by decide +kernel
noncomputable def M_X1_door (t : Nat) (p1 : Int32) (p2 : Int32) : Mo (Nat ⊕ Int32) := Mo.bind (chk [0] t) (fun _ => Mo.bind (M_X1_isDoor t p1) (fun v1 => Mo.bind ((cond v1 (Mo.bind (M_X1_isIn p2 0 8) (fun v22 => cond v22 (Mo.pure true) (Mo.pure false))) (Mo.pure false) : Mo (Bool))) (fun u2 => Mo.bind (M_X1_must u2) (fun w => Mo.cs w (fun b => Mo.pure (Sum.inl b)) (fun v3 => Mo.bind (M_X1_at t p1) (fun v4 => if p2 = 0 then Mo.bind (gI [9] v4 1) (fun v21 => Mo.pure (Sum.inr v21)) else if p2 = 1 then Mo.bind (gI [9] v4 2) (fun v20 => Mo.pure (Sum.inr v20)) else if p2 = 2 then Mo.bind (gZ [9] v4 4) (fun v18 => Mo.bind ((cond v18 (Mo.pure true) (Mo.pure false) : Mo (Bool))) (fun u19 => Mo.pure (Sum.inr (b2i u19)))) else if p2 = 3 then Mo.bind (gI [9] v4 3) (fun v17 => Mo.pure (Sum.inr v17)) else if p2 = 4 then Mo.bind (gR [0] t 9) (fun v14 => Mo.bind (gR [2] v14 1) (fun v15 => Mo.bind (aldI 0 v15 p1) (fun v16 => Mo.pure (Sum.inr v16)))) else if p2 = 5 then Mo.bind (gR [0] t 9) (fun v11 => Mo.bind (gR [2] v11 2) (fun v12 => Mo.bind (aldI 0 v12 p1) (fun v13 => Mo.pure (Sum.inr v13)))) else if p2 = 6 then Mo.bind (gI [9] v4 9) (fun v10 => Mo.pure (Sum.inr v10)) else if p2 = 7 then Mo.bind (gI [9] v4 10) (fun v9 => Mo.pure (Sum.inr v9)) else Mo.bind (gZ [9] v4 11) (fun v7 => Mo.bind ((cond v7 (Mo.pure true) (Mo.pure false) : Mo (Bool))) (fun u8 => Mo.pure (Sum.inr (b2i u8))))))))))
set_option maxHeartbeats 4000000 in
theorem ct_X1_door (G : gG) (t : Nat) (p1 : Int32) (p2 : Int32) : gCx G yX1_door cX1_door 4 (some .int) 7 101 [.ref t, .int p1, .int p2] (M_X1_door t p1 p2) (fun x : Int32 => some (.int x)) := by
  refine gCx.of (by decide) (Nat.le_of_ble_eq_true rfl) (fun K r hG X hex hd ho => ?_)
  subst hG
  have X : gX K cX1_door 4 "BitingDoors" "door" (some .int) 7 101 := X
  have hle : gLe (kh1 K) (kh1 K) := gLe.rf
  show V K 4 (kh0 K) 0 [(0, .ref t), (1, .int p1), (2, .int p2)] []
  generalize kh0 K = h at hd ⊢
  unfold M_X1_door at hd
  obtain ⟨-, hd⟩ := chk_some hd
  refine v_aload_n X dX1_door_0 0 0 rfl rfl ?_
  refine v_iload_n X dX1_door_1 1 1 rfl rfl ?_
  refine v_callV X hd hle (ct_X1_isDoor _ t p1) gCl_X1 (lw_V q1115 q1117 qs12 q109 q1118) ⟨rfl, dn_X1_isDoor⟩ rfl ⟨by decide, by decide⟩ rfl (Nat.le_of_ble_eq_true rfl) dX1_door_2 (fun v1 h hd => ?_)
  show V K 4 h 5 [(0, .ref t), (1, .int p1), (2, .int p2)] [.int (b2i v1)]
  obtain ⟨u2, h1, hd, hd2⟩ := Mo.bind_some hd
  have KJ : V K 4 h1 23 [(0, .ref t), (1, .int p1), (2, .int p2)] [.int (b2i u2)] := by
    clear hd
    have hd := hd2
    refine v_callSX X hd hle (ct_X1_must _ u2) q1618 q1619 q109 q1620 dn_X1_must rfl ⟨by decide, by decide⟩ rfl (Nat.le_of_ble_eq_true rfl) dX1_door_23 (fun v3 h hd => ?_) (fun b h hd => ?_)
    · show V K 4 h 26 [(0, .ref t), (1, .int p1), (2, .int p2)] []
      have hd := cs_r hd
      refine v_aload_n X dX1_door_26 0 0 rfl rfl ?_
      refine v_iload_n X dX1_door_27 1 1 rfl rfl ?_
      refine v_callV X hd hle (ct_X1_at _ t p1) gCl_X1 (lw_V q1123 q1125 qs13 q109 q1126) ⟨rfl, dn_X1_at⟩ rfl ⟨by decide, by decide⟩ rfl (Nat.le_of_ble_eq_true rfl) dX1_door_28 (fun v4 h hd => ?_)
      show V K 4 h 31 [(0, .ref t), (1, .int p1), (2, .int p2)] [.ref v4]
      refine v_astore_n (lv2 := [(3, .ref v4), (0, .ref t), (1, .int p1), (2, .int p2)]) X dX1_door_31 3 rfl (by decide) rfl ?_
      refine v_iload_n X dX1_door_32 3 2 rfl rfl ?_
      by_cases q0 : p2 = 0
      · have hd := ite_t q0 hd
        refine v_tableIn (k := 0) (off := 47) (tgt := 80) X dX1_door_33 q0 (by decide) (by decide) rfl (by decide) ?_
        refine v_aload_n X dX1_door_80 0 3 rfl rfl ?_
        refine v_getI X hd fl_X1_274 dX1_door_81 (fun v21 hd => ?_)
        obtain ⟨rfl, hx⟩ := px_inr hd
        exact v_iret X hx ho dX1_door_84
      · have hd := ite_f q0 hd
        by_cases q1 : p2 = 1
        · have hd := ite_t q1 hd
          refine v_tableIn (k := 1) (off := 52) (tgt := 85) X dX1_door_33 q1 (by decide) (by decide) rfl (by decide) ?_
          refine v_aload_n X dX1_door_85 0 3 rfl rfl ?_
          refine v_getI X hd fl_X1_279 dX1_door_86 (fun v20 hd => ?_)
          obtain ⟨rfl, hx⟩ := px_inr hd
          exact v_iret X hx ho dX1_door_89
        · have hd := ite_f q1 hd
          by_cases q2 : p2 = 2
          · have hd := ite_t q2 hd
            refine v_tableIn (k := 2) (off := 57) (tgt := 90) X dX1_door_33 q2 (by decide) (by decide) rfl (by decide) ?_
            refine v_aload_n X dX1_door_90 0 3 rfl rfl ?_
            refine v_getZ X hd fl_X1_282 dX1_door_91 (fun v18 hd => ?_)
            obtain ⟨u19, h1, hd, hd2⟩ := Mo.bind_some hd
            have KJ : V K 4 h1 102 [] [.int (b2i u19)] := by
              clear hd
              have hd := hd2
              obtain ⟨rfl, hx⟩ := px_inr hd
              exact v_iret X hx ho dX1_door_102
            have hle := (Mo.le hd2).tr hle
            clear hd2
            refine v_ifZ_eq (tgt := 101) X dX1_door_94 (by decide) (fun q => ?_) (fun q => ?_)
            · have hd := cnd_f q hd
              refine v_iconst (v := 0) X dX1_door_101 (by decide) ?_
              exact v_loc [] rfl (v_at (P := fun (u19 : Bool) h => V K 4 h 102 [] [.int (b2i u19)]) hd KJ)
            · have hd := cnd_t q hd
              refine v_iconst (v := 1) X dX1_door_97 (by decide) ?_
              refine v_goto (tgt := 102) X dX1_door_98 (by decide) ?_
              exact v_loc [] rfl (v_at (P := fun (u19 : Bool) h => V K 4 h 102 [] [.int (b2i u19)]) hd KJ)
          · have hd := ite_f q2 hd
            by_cases q3 : p2 = 3
            · have hd := ite_t q3 hd
              refine v_tableIn (k := 3) (off := 70) (tgt := 103) X dX1_door_33 q3 (by decide) (by decide) rfl (by decide) ?_
              refine v_aload_n X dX1_door_103 0 3 rfl rfl ?_
              refine v_getI X hd fl_X1_285 dX1_door_104 (fun v17 hd => ?_)
              obtain ⟨rfl, hx⟩ := px_inr hd
              exact v_iret X hx ho dX1_door_107
            · have hd := ite_f q3 hd
              by_cases q4 : p2 = 4
              · have hd := ite_t q4 hd
                refine v_tableIn (k := 4) (off := 75) (tgt := 108) X dX1_door_33 q4 (by decide) (by decide) rfl (by decide) ?_
                refine v_aload_n X dX1_door_108 1 0 rfl rfl ?_
                refine v_getR X hd fl_X1_90 dX1_door_109 (fun v14 hd => ?_)
                refine v_getR X hd fl_X1_286 dX1_door_112 (fun v15 hd => ?_)
                refine v_iload_n X dX1_door_115 2 1 rfl rfl ?_
                refine v_iald X hd dX1_door_116 (fun v16 hd => ?_)
                obtain ⟨rfl, hx⟩ := px_inr hd
                exact v_iret X hx ho dX1_door_117
              · have hd := ite_f q4 hd
                by_cases q5 : p2 = 5
                · have hd := ite_t q5 hd
                  refine v_tableIn (k := 5) (off := 85) (tgt := 118) X dX1_door_33 q5 (by decide) (by decide) rfl (by decide) ?_
                  refine v_aload_n X dX1_door_118 1 0 rfl rfl ?_
                  refine v_getR X hd fl_X1_90 dX1_door_119 (fun v11 hd => ?_)
                  refine v_getR X hd fl_X1_289 dX1_door_122 (fun v12 hd => ?_)
                  refine v_iload_n X dX1_door_125 2 1 rfl rfl ?_
                  refine v_iald X hd dX1_door_126 (fun v13 hd => ?_)
                  obtain ⟨rfl, hx⟩ := px_inr hd
                  exact v_iret X hx ho dX1_door_127
                · have hd := ite_f q5 hd
                  by_cases q6 : p2 = 6
                  · have hd := ite_t q6 hd
                    refine v_tableIn (k := 6) (off := 95) (tgt := 128) X dX1_door_33 q6 (by decide) (by decide) rfl (by decide) ?_
                    refine v_aload_n X dX1_door_128 0 3 rfl rfl ?_
                    refine v_getI X hd fl_X1_291 dX1_door_129 (fun v10 hd => ?_)
                    obtain ⟨rfl, hx⟩ := px_inr hd
                    exact v_iret X hx ho dX1_door_132
                  · have hd := ite_f q6 hd
                    by_cases q7 : p2 = 7
                    · have hd := ite_t q7 hd
                      refine v_tableIn (k := 7) (off := 100) (tgt := 133) X dX1_door_33 q7 (by decide) (by decide) rfl (by decide) ?_
                      refine v_aload_n X dX1_door_133 0 3 rfl rfl ?_
                      refine v_getI X hd fl_X1_294 dX1_door_134 (fun v9 hd => ?_)
                      obtain ⟨rfl, hx⟩ := px_inr hd
                      exact v_iret X hx ho dX1_door_137
                    · have hd := ite_f q7 hd
                      have eq0 := lv_neT q0 (k := 0) (a := 0) (by decide)
                      have eq1 := lv_neT q1 (k := 1) (a := 1) (by decide)
                      have eq2 := lv_neT q2 (k := 2) (a := 2) (by decide)
                      have eq3 := lv_neT q3 (k := 3) (a := 3) (by decide)
                      have eq4 := lv_neT q4 (k := 4) (a := 4) (by decide)
                      have eq5 := lv_neT q5 (k := 5) (a := 5) (by decide)
                      have eq6 := lv_neT q6 (k := 6) (a := 6) (by decide)
                      have eq7 := lv_neT q7 (k := 7) (a := 7) (by decide)
                      refine v_tableOut (tgt := 138) X dX1_door_33 (by omega) (by decide) ?_
                      refine v_aload_n X dX1_door_138 0 3 rfl rfl ?_
                      refine v_getZ X hd fl_X1_296 dX1_door_139 (fun v7 hd => ?_)
                      obtain ⟨u8, h1, hd, hd2⟩ := Mo.bind_some hd
                      have KJ : V K 4 h1 150 [] [.int (b2i u8)] := by
                        clear hd
                        have hd := hd2
                        obtain ⟨rfl, hx⟩ := px_inr hd
                        exact v_iret X hx ho dX1_door_150
                      have hle := (Mo.le hd2).tr hle
                      clear hd2
                      refine v_ifZ_eq (tgt := 149) X dX1_door_142 (by decide) (fun q => ?_) (fun q => ?_)
                      · have hd := cnd_f q hd
                        refine v_iconst (v := 0) X dX1_door_149 (by decide) ?_
                        exact v_loc [] rfl (v_at (P := fun (u8 : Bool) h => V K 4 h 150 [] [.int (b2i u8)]) hd KJ)
                      · have hd := cnd_t q hd
                        refine v_iconst (v := 1) X dX1_door_145 (by decide) ?_
                        refine v_goto (tgt := 150) X dX1_door_146 (by decide) ?_
                        exact v_loc [] rfl (v_at (P := fun (u8 : Bool) h => V K 4 h 150 [] [.int (b2i u8)]) hd KJ)
    · have hd := cs_l hd
      obtain ⟨rfl, hh⟩ := px_inl hd
      exact vx_leave X hex ho hh
  have hle := (Mo.le hd2).tr hle
  clear hd2
  refine v_ifZ_eq (tgt := 22) X dX1_door_5 (by decide) (fun q => ?_) (fun q => ?_)
  · have hd := cnd_f q hd
    refine v_iconst (v := 0) X dX1_door_22 (by decide) ?_
    exact v_loc [0, 1, 2] rfl (v_at (P := fun (u2 : Bool) h => V K 4 h 23 [(0, .ref t), (1, .int p1), (2, .int p2)] [.int (b2i u2)]) hd KJ)
  · have hd := cnd_t q hd
    refine v_iload_n X dX1_door_8 2 2 rfl rfl ?_
    refine v_iconst (v := 0) X dX1_door_9 (by decide) ?_
    refine v_bipush (v := 8) X dX1_door_10 (by decide) ?_
    refine v_callS X hd hle (ct_X1_isIn _ p2 0 8) (lw_S q1119 q688 q109 q689) dn_X1_isIn rfl ⟨by decide, by decide⟩ rfl (Nat.le_of_ble_eq_true rfl) dX1_door_12 (fun v22 h hd => ?_)
    show V K 4 h 15 [(0, .ref t), (1, .int p1), (2, .int p2)] [.int (b2i v22)]
    refine v_ifZ_eq (tgt := 22) X dX1_door_15 (by decide) (fun q => ?_) (fun q => ?_)
    · have hd := cnd_f q hd
      refine v_iconst (v := 0) X dX1_door_22 (by decide) ?_
      exact v_loc [0, 1, 2] rfl (v_at (P := fun (u2 : Bool) h => V K 4 h 23 [(0, .ref t), (1, .int p1), (2, .int p2)] [.int (b2i u2)]) hd KJ)
    · have hd := cnd_t q hd
      refine v_iconst (v := 1) X dX1_door_18 (by decide) ?_
      refine v_goto (tgt := 23) X dX1_door_19 (by decide) ?_
      exact v_loc [0, 1, 2] rfl (v_at (P := fun (u2 : Bool) h => V K 4 h 23 [(0, .ref t), (1, .int p1), (2, .int p2)] [.int (b2i u2)]) hd KJ)
def dkwX0_door_0 : List UInt8 := [45, 3, 42, 27, 28, 182, 0, 7, 133, 80, 167, 0, 7, 58, 4, 4, 172, 3, 172]
abbrev dktX0_door_0 : List UInt8 := dkwX0_door_0 ++ []
theorem dksX0_door_0 : cX0_door.data.toList.drop 0 = dktX0_door_0 := by decide +kernel
theorem dX0_door_0 : decode cX0_door 0 = .ok (.aload_n 3, 1) := dk_45 (dk_at dksX0_door_0 0 rfl rfl)
theorem dX0_door_1 : decode cX0_door 1 = .ok (.iconst 0, 1) := dk_3 (dk_at dksX0_door_0 1 rfl rfl)
theorem dX0_door_2 : decode cX0_door 2 = .ok (.aload_n 0, 1) := dk_42 (dk_at dksX0_door_0 2 rfl rfl)
theorem dX0_door_3 : decode cX0_door 3 = .ok (.iload_n 1, 1) := dk_27 (dk_at dksX0_door_0 3 rfl rfl)
theorem dX0_door_4 : decode cX0_door 4 = .ok (.iload_n 2, 1) := dk_28 (dk_at dksX0_door_0 4 rfl rfl)
theorem dX0_door_5 : decode cX0_door 5 = .ok (.invokevirtual 7, 3) := dk_182 0 7 (dk_at dksX0_door_0 5 rfl rfl)
theorem dX0_door_8 : decode cX0_door 8 = .ok (.i2l, 1) := dk_133 (dk_at dksX0_door_0 8 rfl rfl)
theorem dX0_door_9 : decode cX0_door 9 = .ok (.lastore, 1) := dk_80 (dk_at dksX0_door_0 9 rfl rfl)
theorem dX0_door_10 : decode cX0_door 10 = .ok (.goto 7, 3) := dk_167 0 7 (dk_at dksX0_door_0 10 rfl rfl)
theorem dX0_door_13 : decode cX0_door 13 = .ok (.astore 4, 2) := dk_58 4 (dk_at dksX0_door_0 13 rfl rfl)
theorem dX0_door_15 : decode cX0_door 15 = .ok (.iconst 1, 1) := dk_4 (dk_at dksX0_door_0 15 rfl rfl)
theorem dX0_door_16 : decode cX0_door 16 = .ok (.ireturn, 1) := dk_172 (dk_at dksX0_door_0 16 rfl rfl)
theorem dX0_door_17 : decode cX0_door 17 = .ok (.iconst 0, 1) := dk_3 (dk_at dksX0_door_0 17 rfl rfl)
theorem dX0_door_18 : decode cX0_door 18 = .ok (.ireturn, 1) := dk_172 (dk_at dksX0_door_0 18 rfl rfl)
theorem dn_X0_door : yX0_door.cls ≠ "java/lang/invoke/MethodHandle" ∧ yX0_door.cls ≠ "java/lang/invoke/VarHandle" ∧ (parseMethodDescriptor yX0_door.desc).map (fun d => d.parameters.length) = some 4 := by decide +kernel
noncomputable def M_X0_door (p1 : Nat) (p2 : Int32) (p3 : Int32) (p4 : Nat) : Mo Int32 := Mo.bind (M_X1_door p1 p2 p3) (fun w => Mo.cs w (fun b => Mo.bind (isNse b) (fun _ => Mo.pure 1)) (fun v1 => Mo.bind (astL p4 0 v1.toInt64) (fun _ => Mo.pure 0)))
set_option maxHeartbeats 4000000 in
theorem ct_X0_door (G : gG) (p1 : Nat) (p2 : Int32) (p3 : Int32) (p4 : Nat) : gCtW G yX0_door cX0_door 5 (some .int) [(0, 10, 13, 13)] 8 124 [.ref p1, .int p2, .int p3, .ref p4] (M_X0_door p1 p2 p3 p4) (fun x : Int32 => some (.int x)) := by
  refine gCtW.of (by decide) (Nat.le_of_ble_eq_true rfl) (fun K r hG X hex hd ho => ?_)
  subst hG
  have X : gX K cX0_door 5 "BitingDoorsLaw" "door" (some .int) 8 124 := X
  have hle : gLe (kh1 K) (kh1 K) := gLe.rf
  show V K 5 (kh0 K) 0 [(0, .ref p1), (1, .int p2), (2, .int p3), (3, .ref p4)] []
  generalize kh0 K = h at hd ⊢
  unfold M_X0_door at hd
  refine v_aload_n X dX0_door_0 3 3 rfl rfl ?_
  refine v_iconst (v := 0) X dX0_door_1 (by decide) ?_
  refine v_aload_n X dX0_door_2 0 0 rfl rfl ?_
  refine v_iload_n X dX0_door_3 1 1 rfl rfl ?_
  refine v_iload_n X dX0_door_4 2 2 rfl rfl ?_
  refine v_callVX X hd hle (ct_X1_door _ p1 p2 p3) gCl_X1 q1614 q1615 q1616 q109 q1617 dn_X1_door rfl ⟨by decide, by decide⟩ rfl (Nat.le_of_ble_eq_true rfl) dX0_door_5 (fun v1 h hd => ?_) (fun b h hd => ?_)
  · show V K 5 h 8 [(0, .ref p1), (1, .int p2), (2, .int p3), (3, .ref p4)] [.int v1, .int 0, .ref p4]
    have hd := cs_r hd
    refine v_i2l X dX0_door_8 ?_
    refine v_last X hd dX0_door_9 (fun h hd => ?_)
    refine v_goto (tgt := 17) X dX0_door_10 (by decide) ?_
    refine v_iconst (v := 0) X dX0_door_17 (by decide) ?_
    exact v_iret X hd ho dX0_door_18
  · have hd := cs_l hd
    obtain ⟨x, hb, hx, hd⟩ := isNse_some hd
    refine vx_catch X hex ⟨by decide, by decide⟩ (by decide) q1613 (isNse_cell X hb hx) ?_
    show V K 5 h 13 [(0, .ref p1), (1, .int p2), (2, .int p3), (3, .ref p4)] [.ref b]
    refine v_astore (lv2 := [(4, .ref b), (0, .ref p1), (1, .int p2), (2, .int p3), (3, .ref p4)]) X dX0_door_13 (by decide) rfl ?_
    refine v_iconst (v := 1) X dX0_door_15 (by decide) ?_
    exact v_iret X hd ho dX0_door_16
