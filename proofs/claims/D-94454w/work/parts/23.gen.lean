set_option maxRecDepth 100000
def dkwX1_quiet_2 : List UInt8 := [182, 1, 163, 87, 132, 1, 1, 167, 255, 225, 27, 172]
abbrev dktX1_quiet_2 : List UInt8 := dkwX1_quiet_2 ++ []
def dkwX1_quiet_1 : List UInt8 := [180, 0, 94, 180, 1, 166, 28, 159, 0, 26, 42, 180, 0, 94, 180, 1, 166, 61, 42, 180, 0, 94, 2]
abbrev dktX1_quiet_1 : List UInt8 := dkwX1_quiet_1 ++ dktX1_quiet_2
def dkwX1_quiet_0 : List UInt8 := [42, 180, 0, 94, 42, 180, 0, 90, 182, 1, 182, 42, 180, 0, 94, 3, 181, 1, 166, 3, 60, 2, 61, 42]
abbrev dktX1_quiet_0 : List UInt8 := dkwX1_quiet_0 ++ dktX1_quiet_1
theorem dksX1_quiet_0 : cX1_quiet.data.toList.drop 0 = dktX1_quiet_0 := by decide +kernel
theorem dksX1_quiet_1 : cX1_quiet.data.toList.drop 24 = dktX1_quiet_1 := dk_seg dksX1_quiet_0 24 rfl rfl
theorem dksX1_quiet_2 : cX1_quiet.data.toList.drop 47 = dktX1_quiet_2 := dk_seg dksX1_quiet_1 23 rfl rfl
theorem dX1_quiet_0 : decode cX1_quiet 0 = .ok (.aload_n 0, 1) := dk_42 (dk_at dksX1_quiet_0 0 rfl rfl)
theorem dX1_quiet_1 : decode cX1_quiet 1 = .ok (.getfield 94, 3) := dk_180 0 94 (dk_at dksX1_quiet_0 1 rfl rfl)
theorem dX1_quiet_4 : decode cX1_quiet 4 = .ok (.aload_n 0, 1) := dk_42 (dk_at dksX1_quiet_0 4 rfl rfl)
theorem dX1_quiet_5 : decode cX1_quiet 5 = .ok (.getfield 90, 3) := dk_180 0 90 (dk_at dksX1_quiet_0 5 rfl rfl)
theorem dX1_quiet_8 : decode cX1_quiet 8 = .ok (.invokevirtual 438, 3) := dk_182 1 182 (dk_at dksX1_quiet_0 8 rfl rfl)
theorem dX1_quiet_11 : decode cX1_quiet 11 = .ok (.aload_n 0, 1) := dk_42 (dk_at dksX1_quiet_0 11 rfl rfl)
theorem dX1_quiet_12 : decode cX1_quiet 12 = .ok (.getfield 94, 3) := dk_180 0 94 (dk_at dksX1_quiet_0 12 rfl rfl)
theorem dX1_quiet_15 : decode cX1_quiet 15 = .ok (.iconst 0, 1) := dk_3 (dk_at dksX1_quiet_0 15 rfl rfl)
theorem dX1_quiet_16 : decode cX1_quiet 16 = .ok (.putfield 422, 3) := dk_181 1 166 (dk_at dksX1_quiet_0 16 rfl rfl)
theorem dX1_quiet_19 : decode cX1_quiet 19 = .ok (.iconst 0, 1) := dk_3 (dk_at dksX1_quiet_0 19 rfl rfl)
theorem dX1_quiet_20 : decode cX1_quiet 20 = .ok (.istore_n 1, 1) := dk_60 (dk_at dksX1_quiet_0 20 rfl rfl)
theorem dX1_quiet_21 : decode cX1_quiet 21 = .ok (.iconst (-1), 1) := dk_2 (dk_at dksX1_quiet_0 21 rfl rfl)
theorem dX1_quiet_22 : decode cX1_quiet 22 = .ok (.istore_n 2, 1) := dk_61 (dk_at dksX1_quiet_0 22 rfl rfl)
theorem dX1_quiet_23 : decode cX1_quiet 23 = .ok (.aload_n 0, 1) := dk_42 (dk_at dksX1_quiet_0 23 rfl rfl)
theorem dX1_quiet_24 : decode cX1_quiet 24 = .ok (.getfield 94, 3) := dk_180 0 94 (dk_at dksX1_quiet_1 0 rfl rfl)
theorem dX1_quiet_27 : decode cX1_quiet 27 = .ok (.getfield 422, 3) := dk_180 1 166 (dk_at dksX1_quiet_1 3 rfl rfl)
theorem dX1_quiet_30 : decode cX1_quiet 30 = .ok (.iload_n 2, 1) := dk_28 (dk_at dksX1_quiet_1 6 rfl rfl)
theorem dX1_quiet_31 : decode cX1_quiet 31 = .ok (.if_icmp .eq 26, 3) := dk_159 0 26 (dk_at dksX1_quiet_1 7 rfl rfl)
theorem dX1_quiet_34 : decode cX1_quiet 34 = .ok (.aload_n 0, 1) := dk_42 (dk_at dksX1_quiet_1 10 rfl rfl)
theorem dX1_quiet_35 : decode cX1_quiet 35 = .ok (.getfield 94, 3) := dk_180 0 94 (dk_at dksX1_quiet_1 11 rfl rfl)
theorem dX1_quiet_38 : decode cX1_quiet 38 = .ok (.getfield 422, 3) := dk_180 1 166 (dk_at dksX1_quiet_1 14 rfl rfl)
theorem dX1_quiet_41 : decode cX1_quiet 41 = .ok (.istore_n 2, 1) := dk_61 (dk_at dksX1_quiet_1 17 rfl rfl)
theorem dX1_quiet_42 : decode cX1_quiet 42 = .ok (.aload_n 0, 1) := dk_42 (dk_at dksX1_quiet_1 18 rfl rfl)
theorem dX1_quiet_43 : decode cX1_quiet 43 = .ok (.getfield 94, 3) := dk_180 0 94 (dk_at dksX1_quiet_1 19 rfl rfl)
theorem dX1_quiet_46 : decode cX1_quiet 46 = .ok (.iconst (-1), 1) := dk_2 (dk_at dksX1_quiet_1 22 rfl rfl)
theorem dX1_quiet_47 : decode cX1_quiet 47 = .ok (.invokevirtual 419, 3) := dk_182 1 163 (dk_at dksX1_quiet_2 0 rfl rfl)
theorem dX1_quiet_50 : decode cX1_quiet 50 = .ok (.pop, 1) := dk_87 (dk_at dksX1_quiet_2 3 rfl rfl)
theorem dX1_quiet_51 : decode cX1_quiet 51 = .ok (.iinc 1 1, 3) := dk_132 1 1 (dk_at dksX1_quiet_2 4 rfl rfl)
theorem dX1_quiet_54 : decode cX1_quiet 54 = .ok (.goto (-31), 3) := dk_167 255 225 (dk_at dksX1_quiet_2 7 rfl rfl)
theorem dX1_quiet_57 : decode cX1_quiet 57 = .ok (.iload_n 1, 1) := dk_27 (dk_at dksX1_quiet_2 10 rfl rfl)
theorem dX1_quiet_58 : decode cX1_quiet 58 = .ok (.ireturn, 1) := dk_172 (dk_at dksX1_quiet_2 11 rfl rfl)
theorem fl_X1_422 : gFl "BitingDoors" 422 [2] 5 := by
  intro args s hts hN ci hc
  simp only [List.mem_cons, List.not_mem_nil, or_false] at hc
  subst hc
  exact ⟨RX3, TX3, 6, "BitingDoors$Walker", gCl_X3, in_X3, by decide, Or.inr ⟨"BitingDoors", va_Nw.use rfl (hN.1 ("BitingDoors", 422, "BitingDoors$Walker", "shuts", "I", "BitingDoors") (List.mem_of_getElem? (i := 12) rfl))⟩, fun _ h => h⟩
theorem fl_X1_94 : gFl "BitingDoors" 94 [0] 10 := by
  intro args s hts hN ci hc
  simp only [List.mem_cons, List.not_mem_nil, or_false] at hc
  subst hc
  exact ⟨RX1, TX1, 46, "BitingDoors", gCl_X1, in_X1, by decide, Or.inl (hts _ q511), fun _ h => h⟩
theorem fp_X1_422 {nm : String} : gFp "BitingDoors" nm 422 [2] 5 .int := by
  intro args s hts hN ci hc
  simp only [List.mem_cons, List.not_mem_nil, or_false] at hc
  subst hc
  exact ⟨RX3, TX3, 6, "BitingDoors$Walker", gCl_X3, in_X3, by decide, Or.inl ⟨rfl, Or.inr ⟨"BitingDoors", va_Nw.use rfl (hN.1 ("BitingDoors", 422, "BitingDoors$Walker", "shuts", "I", "BitingDoors") (List.mem_of_getElem? (i := 12) rfl))⟩⟩, fun _ h => h, rfl, fun D tys hK => gap_X3 hts hK⟩
theorem dn_X1_quiet : yX1_quiet.cls ≠ "java/lang/invoke/MethodHandle" ∧ yX1_quiet.cls ≠ "java/lang/invoke/VarHandle" ∧ (parseMethodDescriptor yX1_quiet.desc).map (fun d => d.parameters.length) = some 0 := by decide +kernel
noncomputable def M_X1_quiet (t : Nat) : Mo Int32 := Mo.bind (chk [0] t) (fun _ => Mo.bind (gR [0] t 10) (fun v1 => Mo.bind (gR [0] t 9) (fun v2 => Mo.bind (M_X3_be v1 v2) (fun v3 => Mo.bind (gR [0] t 10) (fun v4 => Mo.bind (pF [2] v4 5 (.int 0)) (fun _ => Mo.bind (Mo.loop (S := Int32 × Int32) (E := Int32) (fun s5 => Mo.bind (gR [0] t 10) (fun v9 => Mo.bind (gI [2] v9 5) (fun v10 => if v10 = s5.2 then Mo.pure (Sum.inr s5.1) else Mo.bind (gR [0] t 10) (fun v11 => Mo.bind (gI [2] v11 5) (fun v12 => Mo.bind (gR [0] t 10) (fun v13 => Mo.bind (M_X3_minute v13 (-1)) (fun v14 => Mo.lv (s5.1 + 1) (fun v15 => Mo.pure (Sum.inl (v15, v12)))))))))) (0, (-1))) (fun e8 => Mo.pure e8)))))))
set_option maxHeartbeats 4000000 in
theorem ct_X1_quiet (G : gG) (t : Nat) : gCt G yX1_quiet cX1_quiet 3 (some .int) 6 137 [.ref t] (M_X1_quiet t) (fun x : Int32 => some (.int x)) := by
  refine gCt.of (by decide) (Nat.le_of_ble_eq_true rfl) (fun K r hG X hd ho => ?_)
  subst hG
  have X : gX K cX1_quiet 3 "BitingDoors" "quiet" (some .int) 6 137 := X
  have hle : gLe (kh1 K) (kh1 K) := gLe.rf
  show V K 3 (kh0 K) 0 [(0, .ref t)] []
  generalize kh0 K = h at hd ⊢
  unfold M_X1_quiet at hd
  obtain ⟨-, hd⟩ := chk_some hd
  refine v_aload_n X dX1_quiet_0 0 0 rfl rfl ?_
  refine v_getR X hd fl_X1_94 dX1_quiet_1 (fun v1 hd => ?_)
  refine v_aload_n X dX1_quiet_4 0 0 rfl rfl ?_
  refine v_getR X hd fl_X1_90 dX1_quiet_5 (fun v2 hd => ?_)
  refine v_callV X hd hle (ct_X3_be _ v1 v2) gCl_X3 (lw_V q1335 q1336 q1337 q113 q1338) ⟨rfl, dn_X3_be⟩ rfl ⟨by decide, by decide⟩ rfl (Nat.le_of_ble_eq_true rfl) dX1_quiet_8 (fun v3 h hd => ?_)
  show V K 3 h 11 [(0, .ref t)] []
  refine v_aload_n X dX1_quiet_11 0 0 rfl rfl ?_
  refine v_getR X hd fl_X1_94 dX1_quiet_12 (fun v4 hd => ?_)
  refine v_iconst (v := 0) X dX1_quiet_15 (by decide) ?_
  refine v_put (v := .int 0) X hd fp_X1_422 rfl rfl dX1_quiet_16 (fun h hd => ?_)
  refine v_iconst (v := 0) X dX1_quiet_19 (by decide) ?_
  refine v_istore_n (lv2 := [(1, .int 0), (0, .ref t)]) X dX1_quiet_20 1 rfl (by decide) rfl ?_
  refine v_iconst (v := (-1)) X dX1_quiet_21 (by decide) ?_
  refine v_istore_n (lv2 := [(2, .int (-1)), (1, .int 0), (0, .ref t)]) X dX1_quiet_22 2 rfl (by decide) rfl ?_
  obtain ⟨e8, h1, hd, hd2⟩ := Mo.bind_some hd
  have KX : V K 3 h1 57 [(1, .int e8)] [] := by
    clear hd
    have hd := hd2
    refine v_iload_n X dX1_quiet_57 0 1 rfl rfl ?_
    exact v_iret X hd ho dX1_quiet_58
  have hle := (Mo.le hd2).tr hle
  clear hd2
  refine v_loc [2, 1, 0] rfl ?_
  refine loop_ind hd (fun (s5 : Int32 × Int32) h => V K 3 h 23 [(0, .ref t), (1, .int s5.1), (2, .int s5.2)] []) (fun s5 h x h2 hd hle0 ih6 ho7 => ?_)
  have hle := hle0.tr hle
  refine v_aload_n X dX1_quiet_23 0 0 rfl rfl ?_
  refine v_getR X hd fl_X1_94 dX1_quiet_24 (fun v9 hd => ?_)
  refine v_getI X hd fl_X1_422 dX1_quiet_27 (fun v10 hd => ?_)
  refine v_iload_n X dX1_quiet_30 2 2 rfl rfl ?_
  refine v_icmp_eq (tgt := 57) X dX1_quiet_31 (by decide) (fun q => ?_) (fun q => ?_)
  · have hd := ite_t q hd
    exact v_loc [1] rfl (v_at (P := fun (e8 : Int32) h => V K 3 h 57 [(1, .int e8)] []) (lp_out hd ho7) KX)
  · have hd := ite_f q hd
    refine v_aload_n X dX1_quiet_34 0 0 rfl rfl ?_
    refine v_getR X hd fl_X1_94 dX1_quiet_35 (fun v11 hd => ?_)
    refine v_getI X hd fl_X1_422 dX1_quiet_38 (fun v12 hd => ?_)
    refine v_istore_n (lv2 := [(2, .int v12), (0, .ref t), (1, .int s5.1)]) X dX1_quiet_41 2 rfl (by decide) rfl ?_
    refine v_aload_n X dX1_quiet_42 1 0 rfl rfl ?_
    refine v_getR X hd fl_X1_94 dX1_quiet_43 (fun v13 hd => ?_)
    refine v_iconst (v := (-1)) X dX1_quiet_46 (by decide) ?_
    refine v_callV X hd hle (ct_X3_minute _ v13 (-1)) gCl_X3 (lw_V q1297 q1298 q1299 q113 q1300) ⟨rfl, dn_X3_minute⟩ rfl ⟨by decide, by decide⟩ rfl (Nat.le_of_ble_eq_true rfl) dX1_quiet_47 (fun v14 h hd => ?_)
    show V K 3 h 50 [(2, .int v12), (0, .ref t), (1, .int s5.1)] [.int v14]
    refine v_pop X dX1_quiet_50 rfl ?_
    refine v_iincL (lv2 := fun v15 => [(1, .int v15), (2, .int v12), (0, .ref t)]) X hd dX1_quiet_51 2 rfl (by decide : Int32.ofInt 1 = 1) (by decide) (fun v15 => rfl) (fun v15 hd => ?_)
    refine v_goto (tgt := 23) X dX1_quiet_54 (by decide) ?_
    exact v_loc [2, 0, 1] rfl (lp_in (P := fun (s5 : Int32 × Int32) h => V K 3 h 23 [(0, .ref t), (1, .int s5.1), (2, .int s5.2)] []) hd ih6)
theorem dX13_init_0 : decode cX13_init 0 = .ok (.aload_n 0, 1) := by decide +kernel
theorem dX13_init_1 : decode cX13_init 1 = .ok (.invokespecial 1, 3) := by decide +kernel
theorem dX13_init_4 : decode cX13_init 4 = .ok (.return_, 1) := by decide +kernel
theorem dn_X13_init : yX13_init.cls ≠ "java/lang/invoke/MethodHandle" ∧ yX13_init.cls ≠ "java/lang/invoke/VarHandle" ∧ (parseMethodDescriptor yX13_init.desc).map (fun d => d.parameters.length) = some 0 := by decide +kernel
noncomputable def M_X13_init (t : Nat) : Mo Unit := Mo.pure ()
set_option maxHeartbeats 4000000 in
theorem ct_X13_init (G : gG) (t : Nat) : gCt G yX13_init cX13_init 1 none 1 20 [.ref t] (M_X13_init t) (fun _ : Unit => none) := by
  refine gCt.of (by decide) (Nat.le_of_ble_eq_true rfl) (fun K r hG X hd ho => ?_)
  subst hG
  have X : gX K cX13_init 1 "BitingDoors$Act" "<init>" none 1 20 := X
  have hle : gLe (kh1 K) (kh1 K) := gLe.rf
  show V K 1 (kh0 K) 0 [(0, .ref t)] []
  generalize kh0 K = h at hd ⊢
  unfold M_X13_init at hd
  refine v_aload_n X dX13_init_0 0 0 rfl rfl ?_
  refine v_objInit X q1052 q152 q153 (Nat.le_of_ble_eq_true rfl) dX13_init_1 (by decide) (by decide) ?_
  exact v_vret X hd ho dX13_init_4
def dkwX18_init_0 : List UInt8 := [42, 183, 0, 3, 42, 27, 181, 0, 9, 177]
abbrev dktX18_init_0 : List UInt8 := dkwX18_init_0 ++ []
theorem dksX18_init_0 : cX18_init.data.toList.drop 0 = dktX18_init_0 := by decide +kernel
theorem dX18_init_0 : decode cX18_init 0 = .ok (.aload_n 0, 1) := dk_42 (dk_at dksX18_init_0 0 rfl rfl)
theorem dX18_init_1 : decode cX18_init 1 = .ok (.invokespecial 3, 3) := dk_183 0 3 (dk_at dksX18_init_0 1 rfl rfl)
theorem dX18_init_4 : decode cX18_init 4 = .ok (.aload_n 0, 1) := dk_42 (dk_at dksX18_init_0 4 rfl rfl)
theorem dX18_init_5 : decode cX18_init 5 = .ok (.iload_n 1, 1) := dk_27 (dk_at dksX18_init_0 5 rfl rfl)
theorem dX18_init_6 : decode cX18_init 6 = .ok (.putfield 9, 3) := dk_181 0 9 (dk_at dksX18_init_0 6 rfl rfl)
theorem dX18_init_9 : decode cX18_init 9 = .ok (.return_, 1) := dk_177 (dk_at dksX18_init_0 9 rfl rfl)
theorem fp_X18_9_i : gFp "BitingDoors$Rest" "<init>" 9 [14] 0 .int := by
  intro args s hts hN ci hc
  simp only [List.mem_cons, List.not_mem_nil, or_false] at hc
  subst hc
  exact ⟨RX18, TX18, 1, "BitingDoors$Rest", gCl_X18, in_X18, by decide, Or.inr ⟨rfl, rfl, rfl, gFin hts in_X18 (k := 0) (by decide) rfl, hts _ q1099⟩, fun _ h => h, rfl, fun D tys hK => gap_X18 hts hK⟩
theorem dn_X18_init : yX18_init.cls ≠ "java/lang/invoke/MethodHandle" ∧ yX18_init.cls ≠ "java/lang/invoke/VarHandle" ∧ (parseMethodDescriptor yX18_init.desc).map (fun d => d.parameters.length) = some 1 := by decide +kernel
noncomputable def M_X18_init (t : Nat) (p1 : Int32) : Mo Unit := Mo.bind (M_X13_init t) (fun v1 => Mo.bind (pF [14] t 0 (.int p1)) (fun _ => Mo.pure ()))
set_option maxHeartbeats 4000000 in
theorem ct_X18_init (G : gG) (t : Nat) (p1 : Int32) : gCt G yX18_init cX18_init 2 none 2 40 [.ref t, .int p1] (M_X18_init t p1) (fun _ : Unit => none) := by
  refine gCt.of (by decide) (Nat.le_of_ble_eq_true rfl) (fun K r hG X hd ho => ?_)
  subst hG
  have X : gX K cX18_init 2 "BitingDoors$Rest" "<init>" none 2 40 := X
  have hle : gLe (kh1 K) (kh1 K) := gLe.rf
  show V K 2 (kh0 K) 0 [(0, .ref t), (1, .int p1)] []
  generalize kh0 K = h at hd ⊢
  unfold M_X18_init at hd
  refine v_aload_n X dX18_init_0 0 0 rfl rfl ?_
  refine v_callIN (host := "BitingDoors") X hd hle (ct_X13_init _ t) (List.mem_of_getElem? (i := 17) rfl) q1051 q133 q1050 rfl dn_X13_init rfl ⟨by decide, by decide⟩ rfl (Nat.le_of_ble_eq_true rfl) dX18_init_1 (fun v1 h hd => ?_)
  show V K 2 h 4 [(0, .ref t), (1, .int p1)] []
  refine v_aload_n X dX18_init_4 0 0 rfl rfl ?_
  refine v_iload_n X dX18_init_5 1 1 rfl rfl ?_
  refine v_put (v := .int p1) X hd fp_X18_9_i rfl rfl dX18_init_6 (fun h hd => ?_)
  exact v_vret X hd ho dX18_init_9
def dkwX1_end_0 : List UInt8 := [27, 155, 0, 11, 27, 42, 180, 0, 194, 164, 0, 5, 3, 172, 42, 27, 181, 0, 194, 4, 172]
abbrev dktX1_end_0 : List UInt8 := dkwX1_end_0 ++ []
theorem dksX1_end_0 : cX1_end.data.toList.drop 0 = dktX1_end_0 := by decide +kernel
theorem dX1_end_0 : decode cX1_end 0 = .ok (.iload_n 1, 1) := dk_27 (dk_at dksX1_end_0 0 rfl rfl)
theorem dX1_end_1 : decode cX1_end 1 = .ok (.ifCond .lt 11, 3) := dk_155 0 11 (dk_at dksX1_end_0 1 rfl rfl)
theorem dX1_end_4 : decode cX1_end 4 = .ok (.iload_n 1, 1) := dk_27 (dk_at dksX1_end_0 4 rfl rfl)
theorem dX1_end_5 : decode cX1_end 5 = .ok (.aload_n 0, 1) := dk_42 (dk_at dksX1_end_0 5 rfl rfl)
theorem dX1_end_6 : decode cX1_end 6 = .ok (.getfield 194, 3) := dk_180 0 194 (dk_at dksX1_end_0 6 rfl rfl)
theorem dX1_end_9 : decode cX1_end 9 = .ok (.if_icmp .le 5, 3) := dk_164 0 5 (dk_at dksX1_end_0 9 rfl rfl)
theorem dX1_end_12 : decode cX1_end 12 = .ok (.iconst 0, 1) := dk_3 (dk_at dksX1_end_0 12 rfl rfl)
theorem dX1_end_13 : decode cX1_end 13 = .ok (.ireturn, 1) := dk_172 (dk_at dksX1_end_0 13 rfl rfl)
theorem dX1_end_14 : decode cX1_end 14 = .ok (.aload_n 0, 1) := dk_42 (dk_at dksX1_end_0 14 rfl rfl)
theorem dX1_end_15 : decode cX1_end 15 = .ok (.iload_n 1, 1) := dk_27 (dk_at dksX1_end_0 15 rfl rfl)
theorem dX1_end_16 : decode cX1_end 16 = .ok (.putfield 194, 3) := dk_181 0 194 (dk_at dksX1_end_0 16 rfl rfl)
theorem dX1_end_19 : decode cX1_end 19 = .ok (.iconst 1, 1) := dk_4 (dk_at dksX1_end_0 19 rfl rfl)
theorem dX1_end_20 : decode cX1_end 20 = .ok (.ireturn, 1) := dk_172 (dk_at dksX1_end_0 20 rfl rfl)
theorem fl_X1_194 : gFl "BitingDoors" 194 [0] 1 := by
  intro args s hts hN ci hc
  simp only [List.mem_cons, List.not_mem_nil, or_false] at hc
  subst hc
  exact ⟨RX1, TX1, 46, "BitingDoors", gCl_X1, in_X1, by decide, Or.inl (hts _ q495), fun _ h => h⟩
theorem fp_X1_194 {nm : String} : gFp "BitingDoors" nm 194 [0] 1 .int := by
  intro args s hts hN ci hc
  simp only [List.mem_cons, List.not_mem_nil, or_false] at hc
  subst hc
  exact ⟨RX1, TX1, 46, "BitingDoors", gCl_X1, in_X1, by decide, Or.inl ⟨rfl, Or.inl (hts _ q495)⟩, fun _ h => h, rfl, fun D tys hK => gap_X1 hts hK⟩
theorem dn_X1_end : yX1_end.cls ≠ "java/lang/invoke/MethodHandle" ∧ yX1_end.cls ≠ "java/lang/invoke/VarHandle" ∧ (parseMethodDescriptor yX1_end.desc).map (fun d => d.parameters.length) = some 1 := by decide +kernel
noncomputable def M_X1_end (t : Nat) (p1 : Int32) : Mo Bool := Mo.bind (chk [0] t) (fun _ => if p1 < 0 then Mo.pure false else Mo.bind (gI [0] t 1) (fun v1 => if p1 ≤ v1 then Mo.bind (pF [0] t 1 (.int p1)) (fun _ => Mo.pure true) else Mo.pure false))
set_option maxHeartbeats 4000000 in
theorem ct_X1_end (G : gG) (t : Nat) (p1 : Int32) : gCt G yX1_end cX1_end 2 (some .boolean) 0 0 [.ref t, .int p1] (M_X1_end t p1) (fun x : Bool => some (.int (b2i x))) := by
  refine gCt.of (by decide) (Nat.le_of_ble_eq_true rfl) (fun K r hG X hd ho => ?_)
  subst hG
  have X : gX K cX1_end 2 "BitingDoors" "end" (some .boolean) 0 0 := X
  have hle : gLe (kh1 K) (kh1 K) := gLe.rf
  show V K 2 (kh0 K) 0 [(0, .ref t), (1, .int p1)] []
  generalize kh0 K = h at hd ⊢
  unfold M_X1_end at hd
  obtain ⟨-, hd⟩ := chk_some hd
  refine v_iload_n X dX1_end_0 1 1 rfl rfl ?_
  refine v_if_lt (tgt := 12) X dX1_end_1 (by decide) (fun q => ?_) (fun q => ?_)
  · have hd := ite_t q hd
    refine v_iconst (v := 0) X dX1_end_12 (by decide) ?_
    exact v_zret X hd rfl ho dX1_end_13
  · have hd := ite_f q hd
    refine v_iload_n X dX1_end_4 1 1 rfl rfl ?_
    refine v_aload_n X dX1_end_5 0 0 rfl rfl ?_
    refine v_getI X hd fl_X1_194 dX1_end_6 (fun v1 hd => ?_)
    refine v_icmp_le (tgt := 14) X dX1_end_9 (by decide) (fun q => ?_) (fun q => ?_)
    · have hd := ite_t q hd
      refine v_aload_n X dX1_end_14 0 0 rfl rfl ?_
      refine v_iload_n X dX1_end_15 1 1 rfl rfl ?_
      refine v_put (v := .int p1) X hd fp_X1_194 rfl rfl dX1_end_16 (fun h hd => ?_)
      refine v_iconst (v := 1) X dX1_end_19 (by decide) ?_
      exact v_zret X hd rfl ho dX1_end_20
    · have hd := ite_f q hd
      refine v_iconst (v := 0) X dX1_end_12 (by decide) ?_
      exact v_zret X hd rfl ho dX1_end_13
def dkwX15_init_0 : List UInt8 := [42, 183, 0, 3, 42, 27, 181, 0, 9, 177]
abbrev dktX15_init_0 : List UInt8 := dkwX15_init_0 ++ []
theorem dksX15_init_0 : cX15_init.data.toList.drop 0 = dktX15_init_0 := by decide +kernel
theorem dX15_init_0 : decode cX15_init 0 = .ok (.aload_n 0, 1) := dk_42 (dk_at dksX15_init_0 0 rfl rfl)
theorem dX15_init_1 : decode cX15_init 1 = .ok (.invokespecial 3, 3) := dk_183 0 3 (dk_at dksX15_init_0 1 rfl rfl)
theorem dX15_init_4 : decode cX15_init 4 = .ok (.aload_n 0, 1) := dk_42 (dk_at dksX15_init_0 4 rfl rfl)
theorem dX15_init_5 : decode cX15_init 5 = .ok (.iload_n 1, 1) := dk_27 (dk_at dksX15_init_0 5 rfl rfl)
theorem dX15_init_6 : decode cX15_init 6 = .ok (.putfield 9, 3) := dk_181 0 9 (dk_at dksX15_init_0 6 rfl rfl)
theorem dX15_init_9 : decode cX15_init 9 = .ok (.return_, 1) := dk_177 (dk_at dksX15_init_0 9 rfl rfl)
theorem fp_X15_9_i : gFp "BitingDoors$Turn" "<init>" 9 [12, 13] 0 .int := by
  intro args s hts hN ci hc
  simp only [List.mem_cons, List.not_mem_nil, or_false] at hc
  rcases hc with rfl | rfl
  · exact ⟨RX16, TX16, 1, "BitingDoors$Turn", gCl_X16, in_X16, by decide, Or.inr ⟨rfl, rfl, rfl, gFin hts in_X16 (k := 0) (by decide) rfl, hts _ q1077⟩, fun _ h => h, rfl, fun D tys hK => gap_X16 hts hK⟩
  · exact ⟨RX17, TX17, 1, "BitingDoors$Turn", gCl_X17, in_X17, by decide, Or.inr ⟨rfl, rfl, rfl, gFin hts in_X17 (k := 0) (by decide) rfl, hts _ q1077⟩, fun _ h => h, rfl, fun D tys hK => gap_X17 hts hK⟩
theorem dn_X15_init : yX15_init.cls ≠ "java/lang/invoke/MethodHandle" ∧ yX15_init.cls ≠ "java/lang/invoke/VarHandle" ∧ (parseMethodDescriptor yX15_init.desc).map (fun d => d.parameters.length) = some 1 := by decide +kernel
noncomputable def M_X15_init (t : Nat) (p1 : Int32) : Mo Unit := Mo.bind (M_X13_init t) (fun v1 => Mo.bind (pF [12, 13] t 0 (.int p1)) (fun _ => Mo.pure ()))
set_option maxHeartbeats 4000000 in
theorem ct_X15_init (G : gG) (t : Nat) (p1 : Int32) : gCt G yX15_init cX15_init 2 none 2 40 [.ref t, .int p1] (M_X15_init t p1) (fun _ : Unit => none) := by
  refine gCt.of (by decide) (Nat.le_of_ble_eq_true rfl) (fun K r hG X hd ho => ?_)
  subst hG
  have X : gX K cX15_init 2 "BitingDoors$Turn" "<init>" none 2 40 := X
  have hle : gLe (kh1 K) (kh1 K) := gLe.rf
  show V K 2 (kh0 K) 0 [(0, .ref t), (1, .int p1)] []
  generalize kh0 K = h at hd ⊢
  unfold M_X15_init at hd
  refine v_aload_n X dX15_init_0 0 0 rfl rfl ?_
  refine v_callIN (host := "BitingDoors") X hd hle (ct_X13_init _ t) (List.mem_of_getElem? (i := 16) rfl) q1051 q133 q1050 rfl dn_X13_init rfl ⟨by decide, by decide⟩ rfl (Nat.le_of_ble_eq_true rfl) dX15_init_1 (fun v1 h hd => ?_)
  show V K 2 h 4 [(0, .ref t), (1, .int p1)] []
  refine v_aload_n X dX15_init_4 0 0 rfl rfl ?_
  refine v_iload_n X dX15_init_5 1 1 rfl rfl ?_
  refine v_put (v := .int p1) X hd fp_X15_9_i rfl rfl dX15_init_6 (fun h hd => ?_)
  exact v_vret X hd ho dX15_init_9
def dkwX17_init_0 : List UInt8 := [42, 27, 183, 0, 3, 177]
abbrev dktX17_init_0 : List UInt8 := dkwX17_init_0 ++ []
theorem dksX17_init_0 : cX17_init.data.toList.drop 0 = dktX17_init_0 := by decide +kernel
theorem dX17_init_0 : decode cX17_init 0 = .ok (.aload_n 0, 1) := dk_42 (dk_at dksX17_init_0 0 rfl rfl)
theorem dX17_init_1 : decode cX17_init 1 = .ok (.iload_n 1, 1) := dk_27 (dk_at dksX17_init_0 1 rfl rfl)
theorem dX17_init_2 : decode cX17_init 2 = .ok (.invokespecial 3, 3) := dk_183 0 3 (dk_at dksX17_init_0 2 rfl rfl)
theorem dX17_init_5 : decode cX17_init 5 = .ok (.return_, 1) := dk_177 (dk_at dksX17_init_0 5 rfl rfl)
theorem dn_X17_init : yX17_init.cls ≠ "java/lang/invoke/MethodHandle" ∧ yX17_init.cls ≠ "java/lang/invoke/VarHandle" ∧ (parseMethodDescriptor yX17_init.desc).map (fun d => d.parameters.length) = some 1 := by decide +kernel
noncomputable def M_X17_init (t : Nat) (p1 : Int32) : Mo Unit := Mo.bind (M_X15_init t p1) (fun v1 => Mo.pure ())
set_option maxHeartbeats 4000000 in
theorem ct_X17_init (G : gG) (t : Nat) (p1 : Int32) : gCt G yX17_init cX17_init 2 none 3 61 [.ref t, .int p1] (M_X17_init t p1) (fun _ : Unit => none) := by
  refine gCt.of (by decide) (Nat.le_of_ble_eq_true rfl) (fun K r hG X hd ho => ?_)
  subst hG
  have X : gX K cX17_init 2 "BitingDoors$Shut" "<init>" none 3 61 := X
  have hle : gLe (kh1 K) (kh1 K) := gLe.rf
  show V K 2 (kh0 K) 0 [(0, .ref t), (1, .int p1)] []
  generalize kh0 K = h at hd ⊢
  unfold M_X17_init at hd
  refine v_aload_n X dX17_init_0 0 0 rfl rfl ?_
  refine v_iload_n X dX17_init_1 1 1 rfl rfl ?_
  refine v_callI X hd hle (ct_X15_init _ t p1) q1075 q135 q1090 q1074 rfl dn_X15_init rfl ⟨by decide, by decide⟩ rfl (Nat.le_of_ble_eq_true rfl) dX17_init_2 (fun v1 h hd => ?_)
  show V K 2 h 5 [(0, .ref t), (1, .int p1)] []
  exact v_vret X hd ho dX17_init_5
theorem dX19_init_0 : decode cX19_init 0 = .ok (.aload_n 0, 1) := by decide +kernel
theorem dX19_init_1 : decode cX19_init 1 = .ok (.invokespecial 1, 3) := by decide +kernel
theorem dX19_init_4 : decode cX19_init 4 = .ok (.return_, 1) := by decide +kernel
theorem dn_X19_init : yX19_init.cls ≠ "java/lang/invoke/MethodHandle" ∧ yX19_init.cls ≠ "java/lang/invoke/VarHandle" ∧ (parseMethodDescriptor yX19_init.desc).map (fun d => d.parameters.length) = some 0 := by decide +kernel
noncomputable def M_X19_init (t : Nat) : Mo Unit := Mo.pure ()
set_option maxHeartbeats 4000000 in
theorem ct_X19_init (G : gG) (t : Nat) : gCt G yX19_init cX19_init 1 none 1 20 [.ref t] (M_X19_init t) (fun _ : Unit => none) := by
  refine gCt.of (by decide) (Nat.le_of_ble_eq_true rfl) (fun K r hG X hd ho => ?_)
  subst hG
  have X : gX K cX19_init 1 "BitingDoors$Cond" "<init>" none 1 20 := X
  have hle : gLe (kh1 K) (kh1 K) := gLe.rf
  show V K 1 (kh0 K) 0 [(0, .ref t)] []
  generalize kh0 K = h at hd ⊢
  unfold M_X19_init at hd
  refine v_aload_n X dX19_init_0 0 0 rfl rfl ?_
  refine v_objInit X q1481 q152 q153 (Nat.le_of_ble_eq_true rfl) dX19_init_1 (by decide) (by decide) ?_
  exact v_vret X hd ho dX19_init_4
def dkwX24_init_0 : List UInt8 := [42, 183, 0, 1, 42, 43, 181, 0, 7, 42, 44, 181, 0, 13, 177]
abbrev dktX24_init_0 : List UInt8 := dkwX24_init_0 ++ []
theorem dksX24_init_0 : cX24_init.data.toList.drop 0 = dktX24_init_0 := by decide +kernel
theorem dX24_init_0 : decode cX24_init 0 = .ok (.aload_n 0, 1) := dk_42 (dk_at dksX24_init_0 0 rfl rfl)
theorem dX24_init_1 : decode cX24_init 1 = .ok (.invokespecial 1, 3) := dk_183 0 1 (dk_at dksX24_init_0 1 rfl rfl)
theorem dX24_init_4 : decode cX24_init 4 = .ok (.aload_n 0, 1) := dk_42 (dk_at dksX24_init_0 4 rfl rfl)
theorem dX24_init_5 : decode cX24_init 5 = .ok (.aload_n 1, 1) := dk_43 (dk_at dksX24_init_0 5 rfl rfl)
theorem dX24_init_6 : decode cX24_init 6 = .ok (.putfield 7, 3) := dk_181 0 7 (dk_at dksX24_init_0 6 rfl rfl)
theorem dX24_init_9 : decode cX24_init 9 = .ok (.aload_n 0, 1) := dk_42 (dk_at dksX24_init_0 9 rfl rfl)
theorem dX24_init_10 : decode cX24_init 10 = .ok (.aload_n 2, 1) := dk_44 (dk_at dksX24_init_0 10 rfl rfl)
theorem dX24_init_11 : decode cX24_init 11 = .ok (.putfield 13, 3) := dk_181 0 13 (dk_at dksX24_init_0 11 rfl rfl)
theorem dX24_init_14 : decode cX24_init 14 = .ok (.return_, 1) := dk_177 (dk_at dksX24_init_0 14 rfl rfl)
theorem fp_X24_13_i : gFp "BitingDoors$Both" "<init>" 13 [19] 1 (.object "BitingDoors$Cond") := by
  intro args s hts hN ci hc
  simp only [List.mem_cons, List.not_mem_nil, or_false] at hc
  subst hc
  exact ⟨RX24, TX24, 2, "BitingDoors$Both", gCl_X24, in_X24, by decide, Or.inr ⟨rfl, rfl, rfl, gFin hts in_X24 (k := 1) (by decide) rfl, hts _ q1540⟩, fun _ h => h, rfl, fun D tys hK => gap_X24 hts hK⟩
theorem fp_X24_7_i : gFp "BitingDoors$Both" "<init>" 7 [19] 0 (.object "BitingDoors$Cond") := by
  intro args s hts hN ci hc
  simp only [List.mem_cons, List.not_mem_nil, or_false] at hc
  subst hc
  exact ⟨RX24, TX24, 2, "BitingDoors$Both", gCl_X24, in_X24, by decide, Or.inr ⟨rfl, rfl, rfl, gFin hts in_X24 (k := 0) (by decide) rfl, hts _ q1539⟩, fun _ h => h, rfl, fun D tys hK => gap_X24 hts hK⟩
theorem dn_X24_init : yX24_init.cls ≠ "java/lang/invoke/MethodHandle" ∧ yX24_init.cls ≠ "java/lang/invoke/VarHandle" ∧ (parseMethodDescriptor yX24_init.desc).map (fun d => d.parameters.length) = some 2 := by decide +kernel
noncomputable def M_X24_init (t : Nat) (p1 : Nat) (p2 : Nat) : Mo Unit := Mo.bind (M_X19_init t) (fun v1 => Mo.bind (pF [19] t 0 (.ref p1)) (fun _ => Mo.bind (pF [19] t 1 (.ref p2)) (fun _ => Mo.pure ())))
set_option maxHeartbeats 4000000 in
theorem ct_X24_init (G : gG) (t : Nat) (p1 : Nat) (p2 : Nat) : gCt G yX24_init cX24_init 3 none 2 40 [.ref t, .ref p1, .ref p2] (M_X24_init t p1 p2) (fun _ : Unit => none) := by
  refine gCt.of (by decide) (Nat.le_of_ble_eq_true rfl) (fun K r hG X hd ho => ?_)
  subst hG
  have X : gX K cX24_init 3 "BitingDoors$Both" "<init>" none 2 40 := X
  have hle : gLe (kh1 K) (kh1 K) := gLe.rf
  show V K 3 (kh0 K) 0 [(0, .ref t), (1, .ref p1), (2, .ref p2)] []
  generalize kh0 K = h at hd ⊢
  unfold M_X24_init at hd
  refine v_aload_n X dX24_init_0 0 0 rfl rfl ?_
  refine v_callIN (host := "BitingDoors") X hd hle (ct_X19_init _ t) (List.mem_of_getElem? (i := 23) rfl) q1480 q139 q1479 rfl dn_X19_init rfl ⟨by decide, by decide⟩ rfl (Nat.le_of_ble_eq_true rfl) dX24_init_1 (fun v1 h hd => ?_)
  show V K 3 h 4 [(0, .ref t), (1, .ref p1), (2, .ref p2)] []
  refine v_aload_n X dX24_init_4 0 0 rfl rfl ?_
  refine v_aload_n X dX24_init_5 1 1 rfl rfl ?_
  refine v_put (v := .ref p1) X hd fp_X24_7_i rfl rfl dX24_init_6 (fun h hd => ?_)
  refine v_aload_n X dX24_init_9 0 0 rfl rfl ?_
  refine v_aload_n X dX24_init_10 2 2 rfl rfl ?_
  refine v_put (v := .ref p2) X hd fp_X24_13_i rfl rfl dX24_init_11 (fun h hd => ?_)
  exact v_vret X hd ho dX24_init_14
def dkwX20_init_0 : List UInt8 := [42, 183, 0, 1, 42, 43, 181, 0, 7, 177]
abbrev dktX20_init_0 : List UInt8 := dkwX20_init_0 ++ []
theorem dksX20_init_0 : cX20_init.data.toList.drop 0 = dktX20_init_0 := by decide +kernel
theorem dX20_init_0 : decode cX20_init 0 = .ok (.aload_n 0, 1) := dk_42 (dk_at dksX20_init_0 0 rfl rfl)
theorem dX20_init_1 : decode cX20_init 1 = .ok (.invokespecial 1, 3) := dk_183 0 1 (dk_at dksX20_init_0 1 rfl rfl)
theorem dX20_init_4 : decode cX20_init 4 = .ok (.aload_n 0, 1) := dk_42 (dk_at dksX20_init_0 4 rfl rfl)
theorem dX20_init_5 : decode cX20_init 5 = .ok (.aload_n 1, 1) := dk_43 (dk_at dksX20_init_0 5 rfl rfl)
theorem dX20_init_6 : decode cX20_init 6 = .ok (.putfield 7, 3) := dk_181 0 7 (dk_at dksX20_init_0 6 rfl rfl)
theorem dX20_init_9 : decode cX20_init 9 = .ok (.return_, 1) := dk_177 (dk_at dksX20_init_0 9 rfl rfl)
theorem fp_X20_7_i : gFp "BitingDoors$Not" "<init>" 7 [15] 0 (.object "BitingDoors$Cond") := by
  intro args s hts hN ci hc
  simp only [List.mem_cons, List.not_mem_nil, or_false] at hc
  subst hc
  exact ⟨RX20, TX20, 1, "BitingDoors$Not", gCl_X20, in_X20, by decide, Or.inr ⟨rfl, rfl, rfl, gFin hts in_X20 (k := 0) (by decide) rfl, hts _ q1482⟩, fun _ h => h, rfl, fun D tys hK => gap_X20 hts hK⟩
theorem dn_X20_init : yX20_init.cls ≠ "java/lang/invoke/MethodHandle" ∧ yX20_init.cls ≠ "java/lang/invoke/VarHandle" ∧ (parseMethodDescriptor yX20_init.desc).map (fun d => d.parameters.length) = some 1 := by decide +kernel
noncomputable def M_X20_init (t : Nat) (p1 : Nat) : Mo Unit := Mo.bind (M_X19_init t) (fun v1 => Mo.bind (pF [15] t 0 (.ref p1)) (fun _ => Mo.pure ()))
set_option maxHeartbeats 4000000 in
theorem ct_X20_init (G : gG) (t : Nat) (p1 : Nat) : gCt G yX20_init cX20_init 2 none 2 40 [.ref t, .ref p1] (M_X20_init t p1) (fun _ : Unit => none) := by
  refine gCt.of (by decide) (Nat.le_of_ble_eq_true rfl) (fun K r hG X hd ho => ?_)
  subst hG
  have X : gX K cX20_init 2 "BitingDoors$Not" "<init>" none 2 40 := X
  have hle : gLe (kh1 K) (kh1 K) := gLe.rf
  show V K 2 (kh0 K) 0 [(0, .ref t), (1, .ref p1)] []
  generalize kh0 K = h at hd ⊢
  unfold M_X20_init at hd
  refine v_aload_n X dX20_init_0 0 0 rfl rfl ?_
  refine v_callIN (host := "BitingDoors") X hd hle (ct_X19_init _ t) (List.mem_of_getElem? (i := 18) rfl) q1480 q139 q1479 rfl dn_X19_init rfl ⟨by decide, by decide⟩ rfl (Nat.le_of_ble_eq_true rfl) dX20_init_1 (fun v1 h hd => ?_)
  show V K 2 h 4 [(0, .ref t), (1, .ref p1)] []
  refine v_aload_n X dX20_init_4 0 0 rfl rfl ?_
  refine v_aload_n X dX20_init_5 1 1 rfl rfl ?_
  refine v_put (v := .ref p1) X hd fp_X20_7_i rfl rfl dX20_init_6 (fun h hd => ?_)
  exact v_vret X hd ho dX20_init_9
def dkwX21_init_0 : List UInt8 := [42, 183, 0, 1, 42, 27, 181, 0, 7, 177]
abbrev dktX21_init_0 : List UInt8 := dkwX21_init_0 ++ []
theorem dksX21_init_0 : cX21_init.data.toList.drop 0 = dktX21_init_0 := by decide +kernel
theorem dX21_init_0 : decode cX21_init 0 = .ok (.aload_n 0, 1) := dk_42 (dk_at dksX21_init_0 0 rfl rfl)
theorem dX21_init_1 : decode cX21_init 1 = .ok (.invokespecial 1, 3) := dk_183 0 1 (dk_at dksX21_init_0 1 rfl rfl)
theorem dX21_init_4 : decode cX21_init 4 = .ok (.aload_n 0, 1) := dk_42 (dk_at dksX21_init_0 4 rfl rfl)
theorem dX21_init_5 : decode cX21_init 5 = .ok (.iload_n 1, 1) := dk_27 (dk_at dksX21_init_0 5 rfl rfl)
theorem dX21_init_6 : decode cX21_init 6 = .ok (.putfield 7, 3) := dk_181 0 7 (dk_at dksX21_init_0 6 rfl rfl)
theorem dX21_init_9 : decode cX21_init 9 = .ok (.return_, 1) := dk_177 (dk_at dksX21_init_0 9 rfl rfl)
theorem fp_X21_7_i : gFp "BitingDoors$Bites" "<init>" 7 [16] 0 .int := by
  intro args s hts hN ci hc
  simp only [List.mem_cons, List.not_mem_nil, or_false] at hc
  subst hc
  exact ⟨RX21, TX21, 1, "BitingDoors$Bites", gCl_X21, in_X21, by decide, Or.inr ⟨rfl, rfl, rfl, gFin hts in_X21 (k := 0) (by decide) rfl, hts _ q1498⟩, fun _ h => h, rfl, fun D tys hK => gap_X21 hts hK⟩
theorem dn_X21_init : yX21_init.cls ≠ "java/lang/invoke/MethodHandle" ∧ yX21_init.cls ≠ "java/lang/invoke/VarHandle" ∧ (parseMethodDescriptor yX21_init.desc).map (fun d => d.parameters.length) = some 1 := by decide +kernel
noncomputable def M_X21_init (t : Nat) (p1 : Int32) : Mo Unit := Mo.bind (M_X19_init t) (fun v1 => Mo.bind (pF [16] t 0 (.int p1)) (fun _ => Mo.pure ()))
set_option maxHeartbeats 4000000 in
theorem ct_X21_init (G : gG) (t : Nat) (p1 : Int32) : gCt G yX21_init cX21_init 2 none 2 40 [.ref t, .int p1] (M_X21_init t p1) (fun _ : Unit => none) := by
  refine gCt.of (by decide) (Nat.le_of_ble_eq_true rfl) (fun K r hG X hd ho => ?_)
  subst hG
  have X : gX K cX21_init 2 "BitingDoors$Bites" "<init>" none 2 40 := X
  have hle : gLe (kh1 K) (kh1 K) := gLe.rf
  show V K 2 (kh0 K) 0 [(0, .ref t), (1, .int p1)] []
  generalize kh0 K = h at hd ⊢
  unfold M_X21_init at hd
  refine v_aload_n X dX21_init_0 0 0 rfl rfl ?_
  refine v_callIN (host := "BitingDoors") X hd hle (ct_X19_init _ t) (List.mem_of_getElem? (i := 19) rfl) q1480 q139 q1479 rfl dn_X19_init rfl ⟨by decide, by decide⟩ rfl (Nat.le_of_ble_eq_true rfl) dX21_init_1 (fun v1 h hd => ?_)
  show V K 2 h 4 [(0, .ref t), (1, .int p1)] []
  refine v_aload_n X dX21_init_4 0 0 rfl rfl ?_
  refine v_iload_n X dX21_init_5 1 1 rfl rfl ?_
  refine v_put (v := .int p1) X hd fp_X21_7_i rfl rfl dX21_init_6 (fun h hd => ?_)
  exact v_vret X hd ho dX21_init_9
def dkwX22_init_0 : List UInt8 := [42, 183, 0, 3, 42, 27, 181, 0, 9, 177]
abbrev dktX22_init_0 : List UInt8 := dkwX22_init_0 ++ []
theorem dksX22_init_0 : cX22_init.data.toList.drop 0 = dktX22_init_0 := by decide +kernel
theorem dX22_init_0 : decode cX22_init 0 = .ok (.aload_n 0, 1) := dk_42 (dk_at dksX22_init_0 0 rfl rfl)
theorem dX22_init_1 : decode cX22_init 1 = .ok (.invokespecial 3, 3) := dk_183 0 3 (dk_at dksX22_init_0 1 rfl rfl)
theorem dX22_init_4 : decode cX22_init 4 = .ok (.aload_n 0, 1) := dk_42 (dk_at dksX22_init_0 4 rfl rfl)
theorem dX22_init_5 : decode cX22_init 5 = .ok (.iload_n 1, 1) := dk_27 (dk_at dksX22_init_0 5 rfl rfl)
theorem dX22_init_6 : decode cX22_init 6 = .ok (.putfield 9, 3) := dk_181 0 9 (dk_at dksX22_init_0 6 rfl rfl)
theorem dX22_init_9 : decode cX22_init 9 = .ok (.return_, 1) := dk_177 (dk_at dksX22_init_0 9 rfl rfl)
theorem fp_X22_9_i : gFp "BitingDoors$Stands" "<init>" 9 [17] 0 .int := by
  intro args s hts hN ci hc
  simp only [List.mem_cons, List.not_mem_nil, or_false] at hc
  subst hc
  exact ⟨RX22, TX22, 1, "BitingDoors$Stands", gCl_X22, in_X22, by decide, Or.inr ⟨rfl, rfl, rfl, gFin hts in_X22 (k := 0) (by decide) rfl, hts _ q1508⟩, fun _ h => h, rfl, fun D tys hK => gap_X22 hts hK⟩
theorem dn_X22_init : yX22_init.cls ≠ "java/lang/invoke/MethodHandle" ∧ yX22_init.cls ≠ "java/lang/invoke/VarHandle" ∧ (parseMethodDescriptor yX22_init.desc).map (fun d => d.parameters.length) = some 1 := by decide +kernel
noncomputable def M_X22_init (t : Nat) (p1 : Int32) : Mo Unit := Mo.bind (M_X19_init t) (fun v1 => Mo.bind (pF [17] t 0 (.int p1)) (fun _ => Mo.pure ()))
set_option maxHeartbeats 4000000 in
theorem ct_X22_init (G : gG) (t : Nat) (p1 : Int32) : gCt G yX22_init cX22_init 2 none 2 40 [.ref t, .int p1] (M_X22_init t p1) (fun _ : Unit => none) := by
  refine gCt.of (by decide) (Nat.le_of_ble_eq_true rfl) (fun K r hG X hd ho => ?_)
  subst hG
  have X : gX K cX22_init 2 "BitingDoors$Stands" "<init>" none 2 40 := X
  have hle : gLe (kh1 K) (kh1 K) := gLe.rf
  show V K 2 (kh0 K) 0 [(0, .ref t), (1, .int p1)] []
  generalize kh0 K = h at hd ⊢
  unfold M_X22_init at hd
  refine v_aload_n X dX22_init_0 0 0 rfl rfl ?_
  refine v_callIN (host := "BitingDoors") X hd hle (ct_X19_init _ t) (List.mem_of_getElem? (i := 21) rfl) q1480 q139 q1479 rfl dn_X19_init rfl ⟨by decide, by decide⟩ rfl (Nat.le_of_ble_eq_true rfl) dX22_init_1 (fun v1 h hd => ?_)
  show V K 2 h 4 [(0, .ref t), (1, .int p1)] []
  refine v_aload_n X dX22_init_4 0 0 rfl rfl ?_
  refine v_iload_n X dX22_init_5 1 1 rfl rfl ?_
  refine v_put (v := .int p1) X hd fp_X22_9_i rfl rfl dX22_init_6 (fun h hd => ?_)
  exact v_vret X hd ho dX22_init_9
def dkwX25_init_0 : List UInt8 := [42, 183, 0, 1, 42, 43, 181, 0, 7, 42, 44, 181, 0, 13, 177]
abbrev dktX25_init_0 : List UInt8 := dkwX25_init_0 ++ []
theorem dksX25_init_0 : cX25_init.data.toList.drop 0 = dktX25_init_0 := by decide +kernel
theorem dX25_init_0 : decode cX25_init 0 = .ok (.aload_n 0, 1) := dk_42 (dk_at dksX25_init_0 0 rfl rfl)
theorem dX25_init_1 : decode cX25_init 1 = .ok (.invokespecial 1, 3) := dk_183 0 1 (dk_at dksX25_init_0 1 rfl rfl)
theorem dX25_init_4 : decode cX25_init 4 = .ok (.aload_n 0, 1) := dk_42 (dk_at dksX25_init_0 4 rfl rfl)
theorem dX25_init_5 : decode cX25_init 5 = .ok (.aload_n 1, 1) := dk_43 (dk_at dksX25_init_0 5 rfl rfl)
theorem dX25_init_6 : decode cX25_init 6 = .ok (.putfield 7, 3) := dk_181 0 7 (dk_at dksX25_init_0 6 rfl rfl)
theorem dX25_init_9 : decode cX25_init 9 = .ok (.aload_n 0, 1) := dk_42 (dk_at dksX25_init_0 9 rfl rfl)
theorem dX25_init_10 : decode cX25_init 10 = .ok (.aload_n 2, 1) := dk_44 (dk_at dksX25_init_0 10 rfl rfl)
theorem dX25_init_11 : decode cX25_init 11 = .ok (.putfield 13, 3) := dk_181 0 13 (dk_at dksX25_init_0 11 rfl rfl)
theorem dX25_init_14 : decode cX25_init 14 = .ok (.return_, 1) := dk_177 (dk_at dksX25_init_0 14 rfl rfl)
theorem fp_X25_13_i : gFp "BitingDoors$Any" "<init>" 13 [20] 1 (.object "BitingDoors$Cond") := by
  intro args s hts hN ci hc
  simp only [List.mem_cons, List.not_mem_nil, or_false] at hc
  subst hc
  exact ⟨RX25, TX25, 2, "BitingDoors$Any", gCl_X25, in_X25, by decide, Or.inr ⟨rfl, rfl, rfl, gFin hts in_X25 (k := 1) (by decide) rfl, hts _ q1554⟩, fun _ h => h, rfl, fun D tys hK => gap_X25 hts hK⟩
theorem fp_X25_7_i : gFp "BitingDoors$Any" "<init>" 7 [20] 0 (.object "BitingDoors$Cond") := by
  intro args s hts hN ci hc
  simp only [List.mem_cons, List.not_mem_nil, or_false] at hc
  subst hc
  exact ⟨RX25, TX25, 2, "BitingDoors$Any", gCl_X25, in_X25, by decide, Or.inr ⟨rfl, rfl, rfl, gFin hts in_X25 (k := 0) (by decide) rfl, hts _ q1553⟩, fun _ h => h, rfl, fun D tys hK => gap_X25 hts hK⟩
theorem dn_X25_init : yX25_init.cls ≠ "java/lang/invoke/MethodHandle" ∧ yX25_init.cls ≠ "java/lang/invoke/VarHandle" ∧ (parseMethodDescriptor yX25_init.desc).map (fun d => d.parameters.length) = some 2 := by decide +kernel
noncomputable def M_X25_init (t : Nat) (p1 : Nat) (p2 : Nat) : Mo Unit := Mo.bind (M_X19_init t) (fun v1 => Mo.bind (pF [20] t 0 (.ref p1)) (fun _ => Mo.bind (pF [20] t 1 (.ref p2)) (fun _ => Mo.pure ())))
set_option maxHeartbeats 4000000 in
theorem ct_X25_init (G : gG) (t : Nat) (p1 : Nat) (p2 : Nat) : gCt G yX25_init cX25_init 3 none 2 40 [.ref t, .ref p1, .ref p2] (M_X25_init t p1 p2) (fun _ : Unit => none) := by
  refine gCt.of (by decide) (Nat.le_of_ble_eq_true rfl) (fun K r hG X hd ho => ?_)
  subst hG
  have X : gX K cX25_init 3 "BitingDoors$Any" "<init>" none 2 40 := X
  have hle : gLe (kh1 K) (kh1 K) := gLe.rf
  show V K 3 (kh0 K) 0 [(0, .ref t), (1, .ref p1), (2, .ref p2)] []
  generalize kh0 K = h at hd ⊢
  unfold M_X25_init at hd
  refine v_aload_n X dX25_init_0 0 0 rfl rfl ?_
  refine v_callIN (host := "BitingDoors") X hd hle (ct_X19_init _ t) (List.mem_of_getElem? (i := 24) rfl) q1480 q139 q1479 rfl dn_X19_init rfl ⟨by decide, by decide⟩ rfl (Nat.le_of_ble_eq_true rfl) dX25_init_1 (fun v1 h hd => ?_)
  show V K 3 h 4 [(0, .ref t), (1, .ref p1), (2, .ref p2)] []
  refine v_aload_n X dX25_init_4 0 0 rfl rfl ?_
  refine v_aload_n X dX25_init_5 1 1 rfl rfl ?_
  refine v_put (v := .ref p1) X hd fp_X25_7_i rfl rfl dX25_init_6 (fun h hd => ?_)
  refine v_aload_n X dX25_init_9 0 0 rfl rfl ?_
  refine v_aload_n X dX25_init_10 2 2 rfl rfl ?_
  refine v_put (v := .ref p2) X hd fp_X25_13_i rfl rfl dX25_init_11 (fun h hd => ?_)
  exact v_vret X hd ho dX25_init_14
def dkwX23_init_0 : List UInt8 := [42, 183, 0, 1, 42, 27, 181, 0, 7, 42, 28, 181, 0, 13, 42, 29, 181, 0, 16, 177]
abbrev dktX23_init_0 : List UInt8 := dkwX23_init_0 ++ []
theorem dksX23_init_0 : cX23_init.data.toList.drop 0 = dktX23_init_0 := by decide +kernel
theorem dX23_init_0 : decode cX23_init 0 = .ok (.aload_n 0, 1) := dk_42 (dk_at dksX23_init_0 0 rfl rfl)
theorem dX23_init_1 : decode cX23_init 1 = .ok (.invokespecial 1, 3) := dk_183 0 1 (dk_at dksX23_init_0 1 rfl rfl)
theorem dX23_init_4 : decode cX23_init 4 = .ok (.aload_n 0, 1) := dk_42 (dk_at dksX23_init_0 4 rfl rfl)
theorem dX23_init_5 : decode cX23_init 5 = .ok (.iload_n 1, 1) := dk_27 (dk_at dksX23_init_0 5 rfl rfl)
theorem dX23_init_6 : decode cX23_init 6 = .ok (.putfield 7, 3) := dk_181 0 7 (dk_at dksX23_init_0 6 rfl rfl)
theorem dX23_init_9 : decode cX23_init 9 = .ok (.aload_n 0, 1) := dk_42 (dk_at dksX23_init_0 9 rfl rfl)
theorem dX23_init_10 : decode cX23_init 10 = .ok (.iload_n 2, 1) := dk_28 (dk_at dksX23_init_0 10 rfl rfl)
theorem dX23_init_11 : decode cX23_init 11 = .ok (.putfield 13, 3) := dk_181 0 13 (dk_at dksX23_init_0 11 rfl rfl)
theorem dX23_init_14 : decode cX23_init 14 = .ok (.aload_n 0, 1) := dk_42 (dk_at dksX23_init_0 14 rfl rfl)
theorem dX23_init_15 : decode cX23_init 15 = .ok (.iload_n 3, 1) := dk_29 (dk_at dksX23_init_0 15 rfl rfl)
theorem dX23_init_16 : decode cX23_init 16 = .ok (.putfield 16, 3) := dk_181 0 16 (dk_at dksX23_init_0 16 rfl rfl)
theorem dX23_init_19 : decode cX23_init 19 = .ok (.return_, 1) := dk_177 (dk_at dksX23_init_0 19 rfl rfl)
theorem fp_X23_13_i : gFp "BitingDoors$Counts" "<init>" 13 [18] 1 .int := by
  intro args s hts hN ci hc
  simp only [List.mem_cons, List.not_mem_nil, or_false] at hc
  subst hc
  exact ⟨RX23, TX23, 3, "BitingDoors$Counts", gCl_X23, in_X23, by decide, Or.inr ⟨rfl, rfl, rfl, gFin hts in_X23 (k := 1) (by decide) rfl, hts _ q1523⟩, fun _ h => h, rfl, fun D tys hK => gap_X23 hts hK⟩
theorem fp_X23_16_i : gFp "BitingDoors$Counts" "<init>" 16 [18] 2 .int := by
  intro args s hts hN ci hc
  simp only [List.mem_cons, List.not_mem_nil, or_false] at hc
  subst hc
  exact ⟨RX23, TX23, 3, "BitingDoors$Counts", gCl_X23, in_X23, by decide, Or.inr ⟨rfl, rfl, rfl, gFin hts in_X23 (k := 2) (by decide) rfl, hts _ q1524⟩, fun _ h => h, rfl, fun D tys hK => gap_X23 hts hK⟩
theorem fp_X23_7_i : gFp "BitingDoors$Counts" "<init>" 7 [18] 0 .int := by
  intro args s hts hN ci hc
  simp only [List.mem_cons, List.not_mem_nil, or_false] at hc
  subst hc
  exact ⟨RX23, TX23, 3, "BitingDoors$Counts", gCl_X23, in_X23, by decide, Or.inr ⟨rfl, rfl, rfl, gFin hts in_X23 (k := 0) (by decide) rfl, hts _ q1522⟩, fun _ h => h, rfl, fun D tys hK => gap_X23 hts hK⟩
theorem dn_X23_init : yX23_init.cls ≠ "java/lang/invoke/MethodHandle" ∧ yX23_init.cls ≠ "java/lang/invoke/VarHandle" ∧ (parseMethodDescriptor yX23_init.desc).map (fun d => d.parameters.length) = some 3 := by decide +kernel
noncomputable def M_X23_init (t : Nat) (p1 : Int32) (p2 : Int32) (p3 : Int32) : Mo Unit := Mo.bind (M_X19_init t) (fun v1 => Mo.bind (pF [18] t 0 (.int p1)) (fun _ => Mo.bind (pF [18] t 1 (.int p2)) (fun _ => Mo.bind (pF [18] t 2 (.int p3)) (fun _ => Mo.pure ()))))
set_option maxHeartbeats 4000000 in
theorem ct_X23_init (G : gG) (t : Nat) (p1 : Int32) (p2 : Int32) (p3 : Int32) : gCt G yX23_init cX23_init 4 none 2 40 [.ref t, .int p1, .int p2, .int p3] (M_X23_init t p1 p2 p3) (fun _ : Unit => none) := by
  refine gCt.of (by decide) (Nat.le_of_ble_eq_true rfl) (fun K r hG X hd ho => ?_)
  subst hG
  have X : gX K cX23_init 4 "BitingDoors$Counts" "<init>" none 2 40 := X
  have hle : gLe (kh1 K) (kh1 K) := gLe.rf
  show V K 4 (kh0 K) 0 [(0, .ref t), (1, .int p1), (2, .int p2), (3, .int p3)] []
  generalize kh0 K = h at hd ⊢
  unfold M_X23_init at hd
  refine v_aload_n X dX23_init_0 0 0 rfl rfl ?_
  refine v_callIN (host := "BitingDoors") X hd hle (ct_X19_init _ t) (List.mem_of_getElem? (i := 22) rfl) q1480 q139 q1479 rfl dn_X19_init rfl ⟨by decide, by decide⟩ rfl (Nat.le_of_ble_eq_true rfl) dX23_init_1 (fun v1 h hd => ?_)
  show V K 4 h 4 [(0, .ref t), (1, .int p1), (2, .int p2), (3, .int p3)] []
  refine v_aload_n X dX23_init_4 0 0 rfl rfl ?_
  refine v_iload_n X dX23_init_5 1 1 rfl rfl ?_
  refine v_put (v := .int p1) X hd fp_X23_7_i rfl rfl dX23_init_6 (fun h hd => ?_)
  refine v_aload_n X dX23_init_9 0 0 rfl rfl ?_
  refine v_iload_n X dX23_init_10 2 2 rfl rfl ?_
  refine v_put (v := .int p2) X hd fp_X23_13_i rfl rfl dX23_init_11 (fun h hd => ?_)
  refine v_aload_n X dX23_init_14 0 0 rfl rfl ?_
  refine v_iload_n X dX23_init_15 3 3 rfl rfl ?_
  refine v_put (v := .int p3) X hd fp_X23_16_i rfl rfl dX23_init_16 (fun h hd => ?_)
  exact v_vret X hd ho dX23_init_19
def dkwX1_four_1 : List UInt8 := [180, 0, 194, 4, 96, 181, 0, 194, 132, 2, 248, 167, 255, 226, 177]
abbrev dktX1_four_1 : List UInt8 := dkwX1_four_1 ++ []
def dkwX1_four_0 : List UInt8 := [16, 24, 61, 28, 155, 0, 32, 42, 180, 0, 9, 42, 180, 0, 194, 27, 28, 122, 145, 84, 42, 89]
abbrev dktX1_four_0 : List UInt8 := dkwX1_four_0 ++ dktX1_four_1
theorem dksX1_four_0 : cX1_four.data.toList.drop 0 = dktX1_four_0 := by decide +kernel
theorem dksX1_four_1 : cX1_four.data.toList.drop 22 = dktX1_four_1 := dk_seg dksX1_four_0 22 rfl rfl
theorem dX1_four_0 : decode cX1_four 0 = .ok (.bipush 24, 2) := dk_16 24 (dk_at dksX1_four_0 0 rfl rfl)
theorem dX1_four_2 : decode cX1_four 2 = .ok (.istore_n 2, 1) := dk_61 (dk_at dksX1_four_0 2 rfl rfl)
theorem dX1_four_3 : decode cX1_four 3 = .ok (.iload_n 2, 1) := dk_28 (dk_at dksX1_four_0 3 rfl rfl)
theorem dX1_four_4 : decode cX1_four 4 = .ok (.ifCond .lt 32, 3) := dk_155 0 32 (dk_at dksX1_four_0 4 rfl rfl)
theorem dX1_four_7 : decode cX1_four 7 = .ok (.aload_n 0, 1) := dk_42 (dk_at dksX1_four_0 7 rfl rfl)
theorem dX1_four_8 : decode cX1_four 8 = .ok (.getfield 9, 3) := dk_180 0 9 (dk_at dksX1_four_0 8 rfl rfl)
theorem dX1_four_11 : decode cX1_four 11 = .ok (.aload_n 0, 1) := dk_42 (dk_at dksX1_four_0 11 rfl rfl)
theorem dX1_four_12 : decode cX1_four 12 = .ok (.getfield 194, 3) := dk_180 0 194 (dk_at dksX1_four_0 12 rfl rfl)
theorem dX1_four_15 : decode cX1_four 15 = .ok (.iload_n 1, 1) := dk_27 (dk_at dksX1_four_0 15 rfl rfl)
theorem dX1_four_16 : decode cX1_four 16 = .ok (.iload_n 2, 1) := dk_28 (dk_at dksX1_four_0 16 rfl rfl)
theorem dX1_four_17 : decode cX1_four 17 = .ok (.ishr, 1) := dk_122 (dk_at dksX1_four_0 17 rfl rfl)
theorem dX1_four_18 : decode cX1_four 18 = .ok (.i2b, 1) := dk_145 (dk_at dksX1_four_0 18 rfl rfl)
theorem dX1_four_19 : decode cX1_four 19 = .ok (.bastore, 1) := dk_84 (dk_at dksX1_four_0 19 rfl rfl)
theorem dX1_four_20 : decode cX1_four 20 = .ok (.aload_n 0, 1) := dk_42 (dk_at dksX1_four_0 20 rfl rfl)
theorem dX1_four_21 : decode cX1_four 21 = .ok (.dup, 1) := dk_89 (dk_at dksX1_four_0 21 rfl rfl)
theorem dX1_four_22 : decode cX1_four 22 = .ok (.getfield 194, 3) := dk_180 0 194 (dk_at dksX1_four_1 0 rfl rfl)
theorem dX1_four_25 : decode cX1_four 25 = .ok (.iconst 1, 1) := dk_4 (dk_at dksX1_four_1 3 rfl rfl)
theorem dX1_four_26 : decode cX1_four 26 = .ok (.iadd, 1) := dk_96 (dk_at dksX1_four_1 4 rfl rfl)
theorem dX1_four_27 : decode cX1_four 27 = .ok (.putfield 194, 3) := dk_181 0 194 (dk_at dksX1_four_1 5 rfl rfl)
theorem dX1_four_30 : decode cX1_four 30 = .ok (.iinc 2 (-8), 3) := dk_132 2 248 (dk_at dksX1_four_1 8 rfl rfl)
theorem dX1_four_33 : decode cX1_four 33 = .ok (.goto (-30), 3) := dk_167 255 226 (dk_at dksX1_four_1 11 rfl rfl)
theorem dX1_four_36 : decode cX1_four 36 = .ok (.return_, 1) := dk_177 (dk_at dksX1_four_1 14 rfl rfl)
theorem fl_X1_9 : gFl "BitingDoors" 9 [0] 0 := by
  intro args s hts hN ci hc
  simp only [List.mem_cons, List.not_mem_nil, or_false] at hc
  subst hc
  exact ⟨RX1, TX1, 46, "BitingDoors", gCl_X1, in_X1, by decide, Or.inl (hts _ q492), fun _ h => h⟩
theorem dn_X1_four : yX1_four.cls ≠ "java/lang/invoke/MethodHandle" ∧ yX1_four.cls ≠ "java/lang/invoke/VarHandle" ∧ (parseMethodDescriptor yX1_four.desc).map (fun d => d.parameters.length) = some 1 := by decide +kernel
noncomputable def M_X1_four (t : Nat) (p1 : Int32) : Mo Unit := Mo.bind (chk [0] t) (fun _ => Mo.bind (Mo.loop (S := Int32) (E := Unit) (fun s1 => if s1 < 0 then Mo.pure (Sum.inr ()) else Mo.bind (gR [0] t 0) (fun v5 => Mo.bind (gI [0] t 1) (fun v6 => Mo.bind (astI 2 v5 v6 ((p1 >>> (s1 &&& 31)).toInt8.toInt32)) (fun _ => Mo.bind (gI [0] t 1) (fun v7 => Mo.bind (pF [0] t 1 (.int (v7 + 1))) (fun _ => Mo.lv (s1 + (-8)) (fun v8 => Mo.pure (Sum.inl v8)))))))) 24) (fun e4 => Mo.pure ()))
set_option maxHeartbeats 4000000 in
theorem ct_X1_four (G : gG) (t : Nat) (p1 : Int32) : gCt G yX1_four cX1_four 3 none 0 0 [.ref t, .int p1] (M_X1_four t p1) (fun _ : Unit => none) := by
  refine gCt.of (by decide) (Nat.le_of_ble_eq_true rfl) (fun K r hG X hd ho => ?_)
  subst hG
  have X : gX K cX1_four 3 "BitingDoors" "four" none 0 0 := X
  have hle : gLe (kh1 K) (kh1 K) := gLe.rf
  show V K 3 (kh0 K) 0 [(0, .ref t), (1, .int p1)] []
  generalize kh0 K = h at hd ⊢
  unfold M_X1_four at hd
  obtain ⟨-, hd⟩ := chk_some hd
  refine v_bipush (v := 24) X dX1_four_0 (by decide) ?_
  refine v_istore_n (lv2 := [(2, .int 24), (0, .ref t), (1, .int p1)]) X dX1_four_2 2 rfl (by decide) rfl ?_
  obtain ⟨e4, h1, hd, hd2⟩ := Mo.bind_some hd
  have KX : V K 3 h1 36 [] [] := by
    clear hd
    have hd := hd2
    exact v_vret X hd ho dX1_four_36
  have hle := (Mo.le hd2).tr hle
  clear hd2
  refine v_loc [1, 2, 0] rfl ?_
  refine loop_ind hd (fun (s1 : Int32) h => V K 3 h 3 [(0, .ref t), (1, .int p1), (2, .int s1)] []) (fun s1 h x h2 hd hle0 ih2 ho3 => ?_)
  have hle := hle0.tr hle
  refine v_iload_n X dX1_four_3 2 2 rfl rfl ?_
  refine v_if_lt (tgt := 36) X dX1_four_4 (by decide) (fun q => ?_) (fun q => ?_)
  · have hd := ite_t q hd
    exact v_loc [] rfl (v_at (P := fun (e4 : Unit) h => V K 3 h 36 [] []) (lp_out hd ho3) KX)
  · have hd := ite_f q hd
    refine v_aload_n X dX1_four_7 0 0 rfl rfl ?_
    refine v_getR X hd fl_X1_9 dX1_four_8 (fun v5 hd => ?_)
    refine v_aload_n X dX1_four_11 0 0 rfl rfl ?_
    refine v_getI X hd fl_X1_194 dX1_four_12 (fun v6 hd => ?_)
    refine v_iload_n X dX1_four_15 1 1 rfl rfl ?_
    refine v_iload_n X dX1_four_16 2 2 rfl rfl ?_
    refine v_ishr X dX1_four_17 ?_
    refine v_i2b X dX1_four_18 ?_
    refine v_bast X hd (pk_nb _) dX1_four_19 (fun h hd => ?_)
    refine v_aload_n X dX1_four_20 0 0 rfl rfl ?_
    refine v_dup X dX1_four_21 rfl ?_
    refine v_getI X hd fl_X1_194 dX1_four_22 (fun v7 hd => ?_)
    refine v_iconst (v := 1) X dX1_four_25 (by decide) ?_
    refine v_iadd X dX1_four_26 ?_
    refine v_put (v := .int (v7 + 1)) X hd fp_X1_194 rfl rfl dX1_four_27 (fun h hd => ?_)
    refine v_iincL (lv2 := fun v8 => [(2, .int v8), (0, .ref t), (1, .int p1)]) X hd dX1_four_30 2 rfl (by decide : Int32.ofInt (-8) = (-8)) (by decide) (fun v8 => rfl) (fun v8 hd => ?_)
    refine v_goto (tgt := 3) X dX1_four_33 (by decide) ?_
    exact v_loc [1, 2, 0] rfl (lp_in (P := fun (s1 : Int32) h => V K 3 h 3 [(0, .ref t), (1, .int p1), (2, .int s1)] []) hd ih2)
def dkwX1_feed_2 : List UInt8 := [172]
abbrev dktX1_feed_2 : List UInt8 := dkwX1_feed_2 ++ []
def dkwX1_feed_1 : List UInt8 := [182, 0, 197, 42, 29, 182, 0, 197, 42, 21, 4, 182, 0, 197, 42, 21, 5, 182, 0, 197, 42, 180, 0, 194]
abbrev dktX1_feed_1 : List UInt8 := dkwX1_feed_1 ++ dktX1_feed_2
def dkwX1_feed_0 : List UInt8 := [42, 180, 0, 194, 16, 20, 96, 17, 3, 172, 164, 0, 5, 2, 172, 42, 27, 182, 0, 197, 42, 28]
abbrev dktX1_feed_0 : List UInt8 := dkwX1_feed_0 ++ dktX1_feed_1
theorem dksX1_feed_0 : cX1_feed.data.toList.drop 0 = dktX1_feed_0 := by decide +kernel
theorem dksX1_feed_1 : cX1_feed.data.toList.drop 22 = dktX1_feed_1 := dk_seg dksX1_feed_0 22 rfl rfl
theorem dksX1_feed_2 : cX1_feed.data.toList.drop 46 = dktX1_feed_2 := dk_seg dksX1_feed_1 24 rfl rfl
theorem dX1_feed_0 : decode cX1_feed 0 = .ok (.aload_n 0, 1) := dk_42 (dk_at dksX1_feed_0 0 rfl rfl)
theorem dX1_feed_1 : decode cX1_feed 1 = .ok (.getfield 194, 3) := dk_180 0 194 (dk_at dksX1_feed_0 1 rfl rfl)
theorem dX1_feed_4 : decode cX1_feed 4 = .ok (.bipush 20, 2) := dk_16 20 (dk_at dksX1_feed_0 4 rfl rfl)
theorem dX1_feed_6 : decode cX1_feed 6 = .ok (.iadd, 1) := dk_96 (dk_at dksX1_feed_0 6 rfl rfl)
theorem dX1_feed_7 : decode cX1_feed 7 = .ok (.sipush 940, 3) := dk_17 3 172 (dk_at dksX1_feed_0 7 rfl rfl)
theorem dX1_feed_10 : decode cX1_feed 10 = .ok (.if_icmp .le 5, 3) := dk_164 0 5 (dk_at dksX1_feed_0 10 rfl rfl)
theorem dX1_feed_13 : decode cX1_feed 13 = .ok (.iconst (-1), 1) := dk_2 (dk_at dksX1_feed_0 13 rfl rfl)
theorem dX1_feed_14 : decode cX1_feed 14 = .ok (.ireturn, 1) := dk_172 (dk_at dksX1_feed_0 14 rfl rfl)
theorem dX1_feed_15 : decode cX1_feed 15 = .ok (.aload_n 0, 1) := dk_42 (dk_at dksX1_feed_0 15 rfl rfl)
theorem dX1_feed_16 : decode cX1_feed 16 = .ok (.iload_n 1, 1) := dk_27 (dk_at dksX1_feed_0 16 rfl rfl)
theorem dX1_feed_17 : decode cX1_feed 17 = .ok (.invokevirtual 197, 3) := dk_182 0 197 (dk_at dksX1_feed_0 17 rfl rfl)
theorem dX1_feed_20 : decode cX1_feed 20 = .ok (.aload_n 0, 1) := dk_42 (dk_at dksX1_feed_0 20 rfl rfl)
theorem dX1_feed_21 : decode cX1_feed 21 = .ok (.iload_n 2, 1) := dk_28 (dk_at dksX1_feed_0 21 rfl rfl)
theorem dX1_feed_22 : decode cX1_feed 22 = .ok (.invokevirtual 197, 3) := dk_182 0 197 (dk_at dksX1_feed_1 0 rfl rfl)
theorem dX1_feed_25 : decode cX1_feed 25 = .ok (.aload_n 0, 1) := dk_42 (dk_at dksX1_feed_1 3 rfl rfl)
theorem dX1_feed_26 : decode cX1_feed 26 = .ok (.iload_n 3, 1) := dk_29 (dk_at dksX1_feed_1 4 rfl rfl)
theorem dX1_feed_27 : decode cX1_feed 27 = .ok (.invokevirtual 197, 3) := dk_182 0 197 (dk_at dksX1_feed_1 5 rfl rfl)
theorem dX1_feed_30 : decode cX1_feed 30 = .ok (.aload_n 0, 1) := dk_42 (dk_at dksX1_feed_1 8 rfl rfl)
theorem dX1_feed_31 : decode cX1_feed 31 = .ok (.iload 4, 2) := dk_21 4 (dk_at dksX1_feed_1 9 rfl rfl)
theorem dX1_feed_33 : decode cX1_feed 33 = .ok (.invokevirtual 197, 3) := dk_182 0 197 (dk_at dksX1_feed_1 11 rfl rfl)
theorem dX1_feed_36 : decode cX1_feed 36 = .ok (.aload_n 0, 1) := dk_42 (dk_at dksX1_feed_1 14 rfl rfl)
theorem dX1_feed_37 : decode cX1_feed 37 = .ok (.iload 5, 2) := dk_21 5 (dk_at dksX1_feed_1 15 rfl rfl)
theorem dX1_feed_39 : decode cX1_feed 39 = .ok (.invokevirtual 197, 3) := dk_182 0 197 (dk_at dksX1_feed_1 17 rfl rfl)
theorem dX1_feed_42 : decode cX1_feed 42 = .ok (.aload_n 0, 1) := dk_42 (dk_at dksX1_feed_1 20 rfl rfl)
theorem dX1_feed_43 : decode cX1_feed 43 = .ok (.getfield 194, 3) := dk_180 0 194 (dk_at dksX1_feed_1 21 rfl rfl)
theorem dX1_feed_46 : decode cX1_feed 46 = .ok (.ireturn, 1) := dk_172 (dk_at dksX1_feed_2 0 rfl rfl)
theorem dn_X1_feed : yX1_feed.cls ≠ "java/lang/invoke/MethodHandle" ∧ yX1_feed.cls ≠ "java/lang/invoke/VarHandle" ∧ (parseMethodDescriptor yX1_feed.desc).map (fun d => d.parameters.length) = some 5 := by decide +kernel
noncomputable def M_X1_feed (t : Nat) (p1 : Int32) (p2 : Int32) (p3 : Int32) (p4 : Int32) (p5 : Int32) : Mo Int32 := Mo.bind (chk [0] t) (fun _ => Mo.bind (gI [0] t 1) (fun v1 => if (v1 + 20) ≤ 940 then Mo.bind (M_X1_four t p1) (fun v2 => Mo.bind (M_X1_four t p2) (fun v3 => Mo.bind (M_X1_four t p3) (fun v4 => Mo.bind (M_X1_four t p4) (fun v5 => Mo.bind (M_X1_four t p5) (fun v6 => Mo.bind (gI [0] t 1) (fun v7 => Mo.pure v7)))))) else Mo.pure (-1)))
set_option maxHeartbeats 4000000 in
theorem ct_X1_feed (G : gG) (t : Nat) (p1 : Int32) (p2 : Int32) (p3 : Int32) (p4 : Int32) (p5 : Int32) : gCt G yX1_feed cX1_feed 6 (some .int) 1 22 [.ref t, .int p1, .int p2, .int p3, .int p4, .int p5] (M_X1_feed t p1 p2 p3 p4 p5) (fun x : Int32 => some (.int x)) := by
  refine gCt.of (by decide) (Nat.le_of_ble_eq_true rfl) (fun K r hG X hd ho => ?_)
  subst hG
  have X : gX K cX1_feed 6 "BitingDoors" "feed" (some .int) 1 22 := X
  have hle : gLe (kh1 K) (kh1 K) := gLe.rf
  show V K 6 (kh0 K) 0 [(0, .ref t), (1, .int p1), (2, .int p2), (3, .int p3), (4, .int p4), (5, .int p5)] []
  generalize kh0 K = h at hd ⊢
  unfold M_X1_feed at hd
  obtain ⟨-, hd⟩ := chk_some hd
  refine v_aload_n X dX1_feed_0 0 0 rfl rfl ?_
  refine v_getI X hd fl_X1_194 dX1_feed_1 (fun v1 hd => ?_)
  refine v_bipush (v := 20) X dX1_feed_4 (by decide) ?_
  refine v_iadd X dX1_feed_6 ?_
  refine v_sipush (v := 940) X dX1_feed_7 (by decide) ?_
  refine v_icmp_le (tgt := 15) X dX1_feed_10 (by decide) (fun q => ?_) (fun q => ?_)
  · have hd := ite_t q hd
    refine v_aload_n X dX1_feed_15 0 0 rfl rfl ?_
    refine v_iload_n X dX1_feed_16 1 1 rfl rfl ?_
    refine v_callV X hd hle (ct_X1_four _ t p1) gCl_X1 (lw_V q644 q646 qs1 q109 q647) ⟨rfl, dn_X1_four⟩ rfl ⟨by decide, by decide⟩ rfl (Nat.le_of_ble_eq_true rfl) dX1_feed_17 (fun v2 h hd => ?_)
    show V K 6 h 20 [(0, .ref t), (1, .int p1), (2, .int p2), (3, .int p3), (4, .int p4), (5, .int p5)] []
    refine v_aload_n X dX1_feed_20 0 0 rfl rfl ?_
    refine v_iload_n X dX1_feed_21 2 2 rfl rfl ?_
    refine v_callV X hd hle (ct_X1_four _ t p2) gCl_X1 (lw_V q644 q646 qs1 q109 q647) ⟨rfl, dn_X1_four⟩ rfl ⟨by decide, by decide⟩ rfl (Nat.le_of_ble_eq_true rfl) dX1_feed_22 (fun v3 h hd => ?_)
    show V K 6 h 25 [(0, .ref t), (1, .int p1), (2, .int p2), (3, .int p3), (4, .int p4), (5, .int p5)] []
    refine v_aload_n X dX1_feed_25 0 0 rfl rfl ?_
    refine v_iload_n X dX1_feed_26 3 3 rfl rfl ?_
    refine v_callV X hd hle (ct_X1_four _ t p3) gCl_X1 (lw_V q644 q646 qs1 q109 q647) ⟨rfl, dn_X1_four⟩ rfl ⟨by decide, by decide⟩ rfl (Nat.le_of_ble_eq_true rfl) dX1_feed_27 (fun v4 h hd => ?_)
    show V K 6 h 30 [(0, .ref t), (1, .int p1), (2, .int p2), (3, .int p3), (4, .int p4), (5, .int p5)] []
    refine v_aload_n X dX1_feed_30 0 0 rfl rfl ?_
    refine v_iload X dX1_feed_31 4 rfl ?_
    refine v_callV X hd hle (ct_X1_four _ t p4) gCl_X1 (lw_V q644 q646 qs1 q109 q647) ⟨rfl, dn_X1_four⟩ rfl ⟨by decide, by decide⟩ rfl (Nat.le_of_ble_eq_true rfl) dX1_feed_33 (fun v5 h hd => ?_)
    show V K 6 h 36 [(0, .ref t), (1, .int p1), (2, .int p2), (3, .int p3), (4, .int p4), (5, .int p5)] []
    refine v_aload_n X dX1_feed_36 0 0 rfl rfl ?_
    refine v_iload X dX1_feed_37 5 rfl ?_
    refine v_callV X hd hle (ct_X1_four _ t p5) gCl_X1 (lw_V q644 q646 qs1 q109 q647) ⟨rfl, dn_X1_four⟩ rfl ⟨by decide, by decide⟩ rfl (Nat.le_of_ble_eq_true rfl) dX1_feed_39 (fun v6 h hd => ?_)
    show V K 6 h 42 [(0, .ref t), (1, .int p1), (2, .int p2), (3, .int p3), (4, .int p4), (5, .int p5)] []
    refine v_aload_n X dX1_feed_42 0 0 rfl rfl ?_
    refine v_getI X hd fl_X1_194 dX1_feed_43 (fun v7 hd => ?_)
    exact v_iret X hd ho dX1_feed_46
  · have hd := ite_f q hd
    refine v_iconst (v := (-1)) X dX1_feed_13 (by decide) ?_
    exact v_iret X hd ho dX1_feed_14
def dkwX21_is_1 : List UInt8 := [182, 0, 23, 43, 180, 0, 19, 42, 180, 0, 7, 46, 184, 0, 29, 153, 0, 7, 4, 167, 0, 4, 3, 172]
abbrev dktX21_is_1 : List UInt8 := dkwX21_is_1 ++ []
def dkwX21_is_0 : List UInt8 := [28, 42, 180, 0, 7, 159, 0, 40, 43, 180, 0, 13, 28, 43, 180, 0, 19, 28, 46, 42, 180, 0, 7]
abbrev dktX21_is_0 : List UInt8 := dkwX21_is_0 ++ dktX21_is_1
theorem dksX21_is_0 : cX21_is.data.toList.drop 0 = dktX21_is_0 := by decide +kernel
theorem dksX21_is_1 : cX21_is.data.toList.drop 23 = dktX21_is_1 := dk_seg dksX21_is_0 23 rfl rfl
theorem dX21_is_0 : decode cX21_is 0 = .ok (.iload_n 2, 1) := dk_28 (dk_at dksX21_is_0 0 rfl rfl)
theorem dX21_is_1 : decode cX21_is 1 = .ok (.aload_n 0, 1) := dk_42 (dk_at dksX21_is_0 1 rfl rfl)
theorem dX21_is_2 : decode cX21_is 2 = .ok (.getfield 7, 3) := dk_180 0 7 (dk_at dksX21_is_0 2 rfl rfl)
theorem dX21_is_5 : decode cX21_is 5 = .ok (.if_icmp .eq 40, 3) := dk_159 0 40 (dk_at dksX21_is_0 5 rfl rfl)
theorem dX21_is_8 : decode cX21_is 8 = .ok (.aload_n 1, 1) := dk_43 (dk_at dksX21_is_0 8 rfl rfl)
theorem dX21_is_9 : decode cX21_is 9 = .ok (.getfield 13, 3) := dk_180 0 13 (dk_at dksX21_is_0 9 rfl rfl)
theorem dX21_is_12 : decode cX21_is 12 = .ok (.iload_n 2, 1) := dk_28 (dk_at dksX21_is_0 12 rfl rfl)
theorem dX21_is_13 : decode cX21_is 13 = .ok (.aload_n 1, 1) := dk_43 (dk_at dksX21_is_0 13 rfl rfl)
theorem dX21_is_14 : decode cX21_is 14 = .ok (.getfield 19, 3) := dk_180 0 19 (dk_at dksX21_is_0 14 rfl rfl)
theorem dX21_is_17 : decode cX21_is 17 = .ok (.iload_n 2, 1) := dk_28 (dk_at dksX21_is_0 17 rfl rfl)
theorem dX21_is_18 : decode cX21_is 18 = .ok (.iaload, 1) := dk_46 (dk_at dksX21_is_0 18 rfl rfl)
theorem dX21_is_19 : decode cX21_is 19 = .ok (.aload_n 0, 1) := dk_42 (dk_at dksX21_is_0 19 rfl rfl)
theorem dX21_is_20 : decode cX21_is 20 = .ok (.getfield 7, 3) := dk_180 0 7 (dk_at dksX21_is_0 20 rfl rfl)
theorem dX21_is_23 : decode cX21_is 23 = .ok (.invokevirtual 23, 3) := dk_182 0 23 (dk_at dksX21_is_1 0 rfl rfl)
theorem dX21_is_26 : decode cX21_is 26 = .ok (.aload_n 1, 1) := dk_43 (dk_at dksX21_is_1 3 rfl rfl)
theorem dX21_is_27 : decode cX21_is 27 = .ok (.getfield 19, 3) := dk_180 0 19 (dk_at dksX21_is_1 4 rfl rfl)
theorem dX21_is_30 : decode cX21_is 30 = .ok (.aload_n 0, 1) := dk_42 (dk_at dksX21_is_1 7 rfl rfl)
theorem dX21_is_31 : decode cX21_is 31 = .ok (.getfield 7, 3) := dk_180 0 7 (dk_at dksX21_is_1 8 rfl rfl)
theorem dX21_is_34 : decode cX21_is 34 = .ok (.iaload, 1) := dk_46 (dk_at dksX21_is_1 11 rfl rfl)
theorem dX21_is_35 : decode cX21_is 35 = .ok (.invokestatic 29, 3) := dk_184 0 29 (dk_at dksX21_is_1 12 rfl rfl)
theorem dX21_is_38 : decode cX21_is 38 = .ok (.ifCond .eq 7, 3) := dk_153 0 7 (dk_at dksX21_is_1 15 rfl rfl)
theorem dX21_is_41 : decode cX21_is 41 = .ok (.iconst 1, 1) := dk_4 (dk_at dksX21_is_1 18 rfl rfl)
theorem dX21_is_42 : decode cX21_is 42 = .ok (.goto 4, 3) := dk_167 0 4 (dk_at dksX21_is_1 19 rfl rfl)
theorem dX21_is_45 : decode cX21_is 45 = .ok (.iconst 0, 1) := dk_3 (dk_at dksX21_is_1 22 rfl rfl)
theorem dX21_is_46 : decode cX21_is 46 = .ok (.ireturn, 1) := dk_172 (dk_at dksX21_is_1 23 rfl rfl)
theorem fl_X21_13 : gFl "BitingDoors$Bites" 13 [2] 0 := by
  intro args s hts hN ci hc
  simp only [List.mem_cons, List.not_mem_nil, or_false] at hc
  subst hc
  exact ⟨RX3, TX3, 6, "BitingDoors$Walker", gCl_X3, in_X3, by decide, Or.inr ⟨"BitingDoors", va_Nw.use rfl (hN.1 ("BitingDoors$Bites", 13, "BitingDoors$Walker", "house", "LBitingDoors$House;", "BitingDoors") (List.mem_of_getElem? (i := 70) rfl))⟩, fun _ h => h⟩
theorem fl_X21_19 : gFl "BitingDoors$Bites" 19 [2] 1 := by
  intro args s hts hN ci hc
  simp only [List.mem_cons, List.not_mem_nil, or_false] at hc
  subst hc
  exact ⟨RX3, TX3, 6, "BitingDoors$Walker", gCl_X3, in_X3, by decide, Or.inr ⟨"BitingDoors", va_Nw.use rfl (hN.1 ("BitingDoors$Bites", 19, "BitingDoors$Walker", "hanging", "[I", "BitingDoors") (List.mem_of_getElem? (i := 71) rfl))⟩, fun _ h => h⟩
theorem fl_X21_7 : gFl "BitingDoors$Bites" 7 [16] 0 := by
  intro args s hts hN ci hc
  simp only [List.mem_cons, List.not_mem_nil, or_false] at hc
  subst hc
  exact ⟨RX21, TX21, 1, "BitingDoors$Bites", gCl_X21, in_X21, by decide, Or.inl (hts _ q1498), fun _ h => h⟩
theorem dn_X21_is : yX21_is.cls ≠ "java/lang/invoke/MethodHandle" ∧ yX21_is.cls ≠ "java/lang/invoke/VarHandle" ∧ (parseMethodDescriptor yX21_is.desc).map (fun d => d.parameters.length) = some 2 := by decide +kernel
noncomputable def M_X21_is (t : Nat) (p1 : Nat) (p2 : Int32) : Mo Bool := Mo.bind (chk [16] t) (fun _ => Mo.bind (gI [16] t 0) (fun v1 => Mo.bind ((if p2 = v1 then Mo.pure false else Mo.bind (gR [2] p1 0) (fun v3 => Mo.bind (gR [2] p1 1) (fun v4 => Mo.bind (aldI 0 v4 p2) (fun v5 => Mo.bind (gI [16] t 0) (fun v6 => Mo.bind (M_X4_bitten v3 p2 v5 v6) (fun v7 => Mo.bind (gR [2] p1 1) (fun v8 => Mo.bind (gI [16] t 0) (fun v9 => Mo.bind (aldI 0 v8 v9) (fun v10 => Mo.bind (M_X1_has v7 v10) (fun v11 => cond v11 (Mo.pure true) (Mo.pure false)))))))))) : Mo (Bool))) (fun u2 => Mo.pure u2)))
set_option maxHeartbeats 4000000 in
theorem ct_X21_is (G : gG) (t : Nat) (p1 : Nat) (p2 : Int32) : gCt G yX21_is cX21_is 3 (some .boolean) 1 23 [.ref t, .ref p1, .int p2] (M_X21_is t p1 p2) (fun x : Bool => some (.int (b2i x))) := by
  refine gCt.of (by decide) (Nat.le_of_ble_eq_true rfl) (fun K r hG X hd ho => ?_)
  subst hG
  have X : gX K cX21_is 3 "BitingDoors$Bites" "is" (some .boolean) 1 23 := X
  have hle : gLe (kh1 K) (kh1 K) := gLe.rf
  show V K 3 (kh0 K) 0 [(0, .ref t), (1, .ref p1), (2, .int p2)] []
  generalize kh0 K = h at hd ⊢
  unfold M_X21_is at hd
  obtain ⟨-, hd⟩ := chk_some hd
  refine v_iload_n X dX21_is_0 2 2 rfl rfl ?_
  refine v_aload_n X dX21_is_1 0 0 rfl rfl ?_
  refine v_getI X hd fl_X21_7 dX21_is_2 (fun v1 hd => ?_)
  obtain ⟨u2, h1, hd, hd2⟩ := Mo.bind_some hd
  have KJ : V K 3 h1 46 [] [.int (b2i u2)] := by
    clear hd
    have hd := hd2
    exact v_zret X hd rfl ho dX21_is_46
  have hle := (Mo.le hd2).tr hle
  clear hd2
  refine v_icmp_eq (tgt := 45) X dX21_is_5 (by decide) (fun q => ?_) (fun q => ?_)
  · have hd := ite_t q hd
    refine v_iconst (v := 0) X dX21_is_45 (by decide) ?_
    exact v_loc [] rfl (v_at (P := fun (u2 : Bool) h => V K 3 h 46 [] [.int (b2i u2)]) hd KJ)
  · have hd := ite_f q hd
    refine v_aload_n X dX21_is_8 1 1 rfl rfl ?_
    refine v_getR X hd fl_X21_13 dX21_is_9 (fun v3 hd => ?_)
    refine v_iload_n X dX21_is_12 2 2 rfl rfl ?_
    refine v_aload_n X dX21_is_13 1 1 rfl rfl ?_
    refine v_getR X hd fl_X21_19 dX21_is_14 (fun v4 hd => ?_)
    refine v_iload_n X dX21_is_17 2 2 rfl rfl ?_
    refine v_iald X hd dX21_is_18 (fun v5 hd => ?_)
    refine v_aload_n X dX21_is_19 0 0 rfl rfl ?_
    refine v_getI X hd fl_X21_7 dX21_is_20 (fun v6 hd => ?_)
    refine v_callV X hd hle (ct_X4_bitten _ v3 p2 v5 v6) gCl_X4 (lw_V q1573 q1160 q1161 q114 q1162) ⟨rfl, dn_X4_bitten⟩ rfl ⟨by decide, by decide⟩ rfl (Nat.le_of_ble_eq_true rfl) dX21_is_23 (fun v7 h hd => ?_)
    show V K 3 h 26 [(0, .ref t), (1, .ref p1), (2, .int p2)] [.int v7]
    refine v_aload_n X dX21_is_26 1 1 rfl rfl ?_
    refine v_getR X hd fl_X21_19 dX21_is_27 (fun v8 hd => ?_)
    refine v_aload_n X dX21_is_30 0 0 rfl rfl ?_
    refine v_getI X hd fl_X21_7 dX21_is_31 (fun v9 hd => ?_)
    refine v_iald X hd dX21_is_34 (fun v10 hd => ?_)
    refine v_callSN (host := "BitingDoors") X hd hle (ct_X1_has _ v7 v10) (List.mem_of_getElem? (i := 20) rfl) q900 q899 q109 dn_X1_has rfl ⟨by decide, by decide⟩ rfl (Nat.le_of_ble_eq_true rfl) dX21_is_35 (fun v11 h hd => ?_)
    show V K 3 h 38 [(0, .ref t), (1, .ref p1), (2, .int p2)] [.int (b2i v11)]
    refine v_ifZ_eq (tgt := 45) X dX21_is_38 (by decide) (fun q => ?_) (fun q => ?_)
    · have hd := cnd_f q hd
      refine v_iconst (v := 0) X dX21_is_45 (by decide) ?_
      exact v_loc [] rfl (v_at (P := fun (u2 : Bool) h => V K 3 h 46 [] [.int (b2i u2)]) hd KJ)
    · have hd := cnd_t q hd
      refine v_iconst (v := 1) X dX21_is_41 (by decide) ?_
      refine v_goto (tgt := 46) X dX21_is_42 (by decide) ?_
      exact v_loc [] rfl (v_at (P := fun (u2 : Bool) h => V K 3 h 46 [] [.int (b2i u2)]) hd KJ)
def dkwX1_can_1 : List UInt8 := [46, 167, 0, 4, 2, 172]
abbrev dktX1_can_1 : List UInt8 := dkwX1_can_1 ++ []
def dkwX1_can_0 : List UInt8 := [42, 27, 182, 1, 7, 153, 0, 23, 28, 184, 1, 42, 153, 0, 16, 42, 27, 182, 1, 15, 180, 1, 55, 28]
abbrev dktX1_can_0 : List UInt8 := dkwX1_can_0 ++ dktX1_can_1
theorem dksX1_can_0 : cX1_can.data.toList.drop 0 = dktX1_can_0 := by decide +kernel
theorem dksX1_can_1 : cX1_can.data.toList.drop 24 = dktX1_can_1 := dk_seg dksX1_can_0 24 rfl rfl
theorem dX1_can_0 : decode cX1_can 0 = .ok (.aload_n 0, 1) := dk_42 (dk_at dksX1_can_0 0 rfl rfl)
theorem dX1_can_1 : decode cX1_can 1 = .ok (.iload_n 1, 1) := dk_27 (dk_at dksX1_can_0 1 rfl rfl)
theorem dX1_can_2 : decode cX1_can 2 = .ok (.invokevirtual 263, 3) := dk_182 1 7 (dk_at dksX1_can_0 2 rfl rfl)
theorem dX1_can_5 : decode cX1_can 5 = .ok (.ifCond .eq 23, 3) := dk_153 0 23 (dk_at dksX1_can_0 5 rfl rfl)
theorem dX1_can_8 : decode cX1_can 8 = .ok (.iload_n 2, 1) := dk_28 (dk_at dksX1_can_0 8 rfl rfl)
theorem dX1_can_9 : decode cX1_can 9 = .ok (.invokestatic 298, 3) := dk_184 1 42 (dk_at dksX1_can_0 9 rfl rfl)
theorem dX1_can_12 : decode cX1_can 12 = .ok (.ifCond .eq 16, 3) := dk_153 0 16 (dk_at dksX1_can_0 12 rfl rfl)
theorem dX1_can_15 : decode cX1_can 15 = .ok (.aload_n 0, 1) := dk_42 (dk_at dksX1_can_0 15 rfl rfl)
theorem dX1_can_16 : decode cX1_can 16 = .ok (.iload_n 1, 1) := dk_27 (dk_at dksX1_can_0 16 rfl rfl)
theorem dX1_can_17 : decode cX1_can 17 = .ok (.invokevirtual 271, 3) := dk_182 1 15 (dk_at dksX1_can_0 17 rfl rfl)
theorem dX1_can_20 : decode cX1_can 20 = .ok (.getfield 311, 3) := dk_180 1 55 (dk_at dksX1_can_0 20 rfl rfl)
theorem dX1_can_23 : decode cX1_can 23 = .ok (.iload_n 2, 1) := dk_28 (dk_at dksX1_can_0 23 rfl rfl)
theorem dX1_can_24 : decode cX1_can 24 = .ok (.iaload, 1) := dk_46 (dk_at dksX1_can_1 0 rfl rfl)
theorem dX1_can_25 : decode cX1_can 25 = .ok (.goto 4, 3) := dk_167 0 4 (dk_at dksX1_can_1 1 rfl rfl)
theorem dX1_can_28 : decode cX1_can 28 = .ok (.iconst (-1), 1) := dk_2 (dk_at dksX1_can_1 4 rfl rfl)
theorem dX1_can_29 : decode cX1_can 29 = .ok (.ireturn, 1) := dk_172 (dk_at dksX1_can_1 5 rfl rfl)
theorem fl_X1_311 : gFl "BitingDoors" 311 [9] 7 := by
  intro args s hts hN ci hc
  simp only [List.mem_cons, List.not_mem_nil, or_false] at hc
  subst hc
  exact ⟨RX11, TX11, 12, "BitingDoors$Door", gCl_X11, in_X11, by decide, Or.inr ⟨"BitingDoors", va_Nw.use rfl (hN.1 ("BitingDoors", 311, "BitingDoors$Door", "can", "[I", "BitingDoors") (List.mem_of_getElem? (i := 21) rfl))⟩, fun _ h => h⟩
theorem dn_X1_can : yX1_can.cls ≠ "java/lang/invoke/MethodHandle" ∧ yX1_can.cls ≠ "java/lang/invoke/VarHandle" ∧ (parseMethodDescriptor yX1_can.desc).map (fun d => d.parameters.length) = some 2 := by decide +kernel
noncomputable def M_X1_can (t : Nat) (p1 : Int32) (p2 : Int32) : Mo Int32 := Mo.bind (chk [0] t) (fun _ => Mo.bind (M_X1_isDoor t p1) (fun v1 => Mo.bind ((cond v1 (Mo.bind (M_X1_isHanging p2) (fun v3 => cond v3 (Mo.bind (M_X1_at t p1) (fun v4 => Mo.bind (gR [9] v4 7) (fun v5 => Mo.bind (aldI 0 v5 p2) (fun v6 => Mo.pure v6)))) (Mo.pure (-1)))) (Mo.pure (-1)) : Mo (Int32))) (fun u2 => Mo.pure u2)))
set_option maxHeartbeats 4000000 in
theorem ct_X1_can (G : gG) (t : Nat) (p1 : Int32) (p2 : Int32) : gCt G yX1_can cX1_can 3 (some .int) 2 43 [.ref t, .int p1, .int p2] (M_X1_can t p1 p2) (fun x : Int32 => some (.int x)) := by
  refine gCt.of (by decide) (Nat.le_of_ble_eq_true rfl) (fun K r hG X hd ho => ?_)
  subst hG
  have X : gX K cX1_can 3 "BitingDoors" "can" (some .int) 2 43 := X
  have hle : gLe (kh1 K) (kh1 K) := gLe.rf
  show V K 3 (kh0 K) 0 [(0, .ref t), (1, .int p1), (2, .int p2)] []
  generalize kh0 K = h at hd ⊢
  unfold M_X1_can at hd
  obtain ⟨-, hd⟩ := chk_some hd
  refine v_aload_n X dX1_can_0 0 0 rfl rfl ?_
  refine v_iload_n X dX1_can_1 1 1 rfl rfl ?_
  refine v_callV X hd hle (ct_X1_isDoor _ t p1) gCl_X1 (lw_V q1115 q1117 qs12 q109 q1118) ⟨rfl, dn_X1_isDoor⟩ rfl ⟨by decide, by decide⟩ rfl (Nat.le_of_ble_eq_true rfl) dX1_can_2 (fun v1 h hd => ?_)
  show V K 3 h 5 [(0, .ref t), (1, .int p1), (2, .int p2)] [.int (b2i v1)]
  obtain ⟨u2, h1, hd, hd2⟩ := Mo.bind_some hd
  have KJ : V K 3 h1 29 [] [.int u2] := by
    clear hd
    have hd := hd2
    exact v_iret X hd ho dX1_can_29
  have hle := (Mo.le hd2).tr hle
  clear hd2
  refine v_ifZ_eq (tgt := 28) X dX1_can_5 (by decide) (fun q => ?_) (fun q => ?_)
  · have hd := cnd_f q hd
    refine v_iconst (v := (-1)) X dX1_can_28 (by decide) ?_
    exact v_loc [] rfl (v_at (P := fun (u2 : Int32) h => V K 3 h 29 [] [.int u2]) hd KJ)
  · have hd := cnd_t q hd
    refine v_iload_n X dX1_can_8 2 2 rfl rfl ?_
    refine v_callS X hd hle (ct_X1_isHanging _ p2) (lw_S q1120 q1121 q109 q1122) dn_X1_isHanging rfl ⟨by decide, by decide⟩ rfl (Nat.le_of_ble_eq_true rfl) dX1_can_9 (fun v3 h hd => ?_)
    show V K 3 h 12 [(0, .ref t), (1, .int p1), (2, .int p2)] [.int (b2i v3)]
    refine v_ifZ_eq (tgt := 28) X dX1_can_12 (by decide) (fun q => ?_) (fun q => ?_)
    · have hd := cnd_f q hd
      refine v_iconst (v := (-1)) X dX1_can_28 (by decide) ?_
      exact v_loc [] rfl (v_at (P := fun (u2 : Int32) h => V K 3 h 29 [] [.int u2]) hd KJ)
    · have hd := cnd_t q hd
      refine v_aload_n X dX1_can_15 0 0 rfl rfl ?_
      refine v_iload_n X dX1_can_16 1 1 rfl rfl ?_
      refine v_callV X hd hle (ct_X1_at _ t p1) gCl_X1 (lw_V q1123 q1125 qs13 q109 q1126) ⟨rfl, dn_X1_at⟩ rfl ⟨by decide, by decide⟩ rfl (Nat.le_of_ble_eq_true rfl) dX1_can_17 (fun v4 h hd => ?_)
      show V K 3 h 20 [(0, .ref t), (1, .int p1), (2, .int p2)] [.ref v4]
      refine v_getR X hd fl_X1_311 dX1_can_20 (fun v5 hd => ?_)
      refine v_iload_n X dX1_can_23 2 2 rfl rfl ?_
      refine v_iald X hd dX1_can_24 (fun v6 hd => ?_)
      refine v_goto (tgt := 29) X dX1_can_25 (by decide) ?_
      exact v_loc [] rfl (v_at (P := fun (u2 : Int32) h => V K 3 h 29 [] [.int u2]) hd KJ)
def dkwX1_code_1 : List UInt8 := [180, 1, 33, 28, 46, 96, 60, 132, 2, 255, 167, 255, 238, 16, 100, 27, 104, 42, 180, 1, 162, 96, 172]
abbrev dktX1_code_1 : List UInt8 := dkwX1_code_1 ++ []
def dkwX1_code_0 : List UInt8 := [3, 60, 8, 42, 180, 0, 243, 180, 0, 247, 184, 1, 144, 4, 100, 61, 28, 155, 0, 20, 6, 27, 104, 42]
abbrev dktX1_code_0 : List UInt8 := dkwX1_code_0 ++ dktX1_code_1
theorem dksX1_code_0 : cX1_code.data.toList.drop 0 = dktX1_code_0 := by decide +kernel
theorem dksX1_code_1 : cX1_code.data.toList.drop 24 = dktX1_code_1 := dk_seg dksX1_code_0 24 rfl rfl
theorem dX1_code_0 : decode cX1_code 0 = .ok (.iconst 0, 1) := dk_3 (dk_at dksX1_code_0 0 rfl rfl)
theorem dX1_code_1 : decode cX1_code 1 = .ok (.istore_n 1, 1) := dk_60 (dk_at dksX1_code_0 1 rfl rfl)
theorem dX1_code_2 : decode cX1_code 2 = .ok (.iconst 5, 1) := dk_8 (dk_at dksX1_code_0 2 rfl rfl)
theorem dX1_code_3 : decode cX1_code 3 = .ok (.aload_n 0, 1) := dk_42 (dk_at dksX1_code_0 3 rfl rfl)
theorem dX1_code_4 : decode cX1_code 4 = .ok (.getfield 243, 3) := dk_180 0 243 (dk_at dksX1_code_0 4 rfl rfl)
theorem dX1_code_7 : decode cX1_code 7 = .ok (.getfield 247, 3) := dk_180 0 247 (dk_at dksX1_code_0 7 rfl rfl)
theorem dX1_code_10 : decode cX1_code 10 = .ok (.invokestatic 400, 3) := dk_184 1 144 (dk_at dksX1_code_0 10 rfl rfl)
theorem dX1_code_13 : decode cX1_code 13 = .ok (.iconst 1, 1) := dk_4 (dk_at dksX1_code_0 13 rfl rfl)
theorem dX1_code_14 : decode cX1_code 14 = .ok (.isub, 1) := dk_100 (dk_at dksX1_code_0 14 rfl rfl)
theorem dX1_code_15 : decode cX1_code 15 = .ok (.istore_n 2, 1) := dk_61 (dk_at dksX1_code_0 15 rfl rfl)
theorem dX1_code_16 : decode cX1_code 16 = .ok (.iload_n 2, 1) := dk_28 (dk_at dksX1_code_0 16 rfl rfl)
theorem dX1_code_17 : decode cX1_code 17 = .ok (.ifCond .lt 20, 3) := dk_155 0 20 (dk_at dksX1_code_0 17 rfl rfl)
theorem dX1_code_20 : decode cX1_code 20 = .ok (.iconst 3, 1) := dk_6 (dk_at dksX1_code_0 20 rfl rfl)
theorem dX1_code_21 : decode cX1_code 21 = .ok (.iload_n 1, 1) := dk_27 (dk_at dksX1_code_0 21 rfl rfl)
theorem dX1_code_22 : decode cX1_code 22 = .ok (.imul, 1) := dk_104 (dk_at dksX1_code_0 22 rfl rfl)
theorem dX1_code_23 : decode cX1_code 23 = .ok (.aload_n 0, 1) := dk_42 (dk_at dksX1_code_0 23 rfl rfl)
theorem dX1_code_24 : decode cX1_code 24 = .ok (.getfield 289, 3) := dk_180 1 33 (dk_at dksX1_code_1 0 rfl rfl)
theorem dX1_code_27 : decode cX1_code 27 = .ok (.iload_n 2, 1) := dk_28 (dk_at dksX1_code_1 3 rfl rfl)
theorem dX1_code_28 : decode cX1_code 28 = .ok (.iaload, 1) := dk_46 (dk_at dksX1_code_1 4 rfl rfl)
theorem dX1_code_29 : decode cX1_code 29 = .ok (.iadd, 1) := dk_96 (dk_at dksX1_code_1 5 rfl rfl)
theorem dX1_code_30 : decode cX1_code 30 = .ok (.istore_n 1, 1) := dk_60 (dk_at dksX1_code_1 6 rfl rfl)
theorem dX1_code_31 : decode cX1_code 31 = .ok (.iinc 2 (-1), 3) := dk_132 2 255 (dk_at dksX1_code_1 7 rfl rfl)
theorem dX1_code_34 : decode cX1_code 34 = .ok (.goto (-18), 3) := dk_167 255 238 (dk_at dksX1_code_1 10 rfl rfl)
theorem dX1_code_37 : decode cX1_code 37 = .ok (.bipush 100, 2) := dk_16 100 (dk_at dksX1_code_1 13 rfl rfl)
theorem dX1_code_39 : decode cX1_code 39 = .ok (.iload_n 1, 1) := dk_27 (dk_at dksX1_code_1 15 rfl rfl)
theorem dX1_code_40 : decode cX1_code 40 = .ok (.imul, 1) := dk_104 (dk_at dksX1_code_1 16 rfl rfl)
theorem dX1_code_41 : decode cX1_code 41 = .ok (.aload_n 0, 1) := dk_42 (dk_at dksX1_code_1 17 rfl rfl)
theorem dX1_code_42 : decode cX1_code 42 = .ok (.getfield 418, 3) := dk_180 1 162 (dk_at dksX1_code_1 18 rfl rfl)
theorem dX1_code_45 : decode cX1_code 45 = .ok (.iadd, 1) := dk_96 (dk_at dksX1_code_1 21 rfl rfl)
theorem dX1_code_46 : decode cX1_code 46 = .ok (.ireturn, 1) := dk_172 (dk_at dksX1_code_1 22 rfl rfl)
theorem fl_X1_289 : gFl "BitingDoors" 289 [2] 2 := by
  intro args s hts hN ci hc
  simp only [List.mem_cons, List.not_mem_nil, or_false] at hc
  subst hc
  exact ⟨RX3, TX3, 6, "BitingDoors$Walker", gCl_X3, in_X3, by decide, Or.inr ⟨"BitingDoors", va_Nw.use rfl (hN.1 ("BitingDoors", 289, "BitingDoors$Walker", "angle", "[I", "BitingDoors") (List.mem_of_getElem? (i := 9) rfl))⟩, fun _ h => h⟩
theorem fl_X1_418 : gFl "BitingDoors" 418 [2] 3 := by
  intro args s hts hN ci hc
  simp only [List.mem_cons, List.not_mem_nil, or_false] at hc
  subst hc
  exact ⟨RX3, TX3, 6, "BitingDoors$Walker", gCl_X3, in_X3, by decide, Or.inr ⟨"BitingDoors", va_Nw.use rfl (hN.1 ("BitingDoors", 418, "BitingDoors$Walker", "place", "I", "BitingDoors") (List.mem_of_getElem? (i := 10) rfl))⟩, fun _ h => h⟩
theorem dn_X1_code : yX1_code.cls ≠ "java/lang/invoke/MethodHandle" ∧ yX1_code.cls ≠ "java/lang/invoke/VarHandle" ∧ (parseMethodDescriptor yX1_code.desc).map (fun d => d.parameters.length) = some 1 := by decide +kernel
noncomputable def M_X1_code (p1 : Nat) : Mo Int32 := Mo.bind (gR [2] p1 0) (fun v1 => Mo.bind (gI [3] v1 6) (fun v2 => Mo.lv ((if v2 < 5 then v2 else 5) - 1) (fun v3 => Mo.bind (Mo.loop (S := Int32 × Int32) (E := Int32) (fun s4 => if s4.2 < 0 then Mo.pure (Sum.inr s4.1) else Mo.bind (gR [2] p1 2) (fun v8 => Mo.bind (aldI 0 v8 s4.2) (fun v9 => Mo.lv ((3 * s4.1) + v9) (fun v10 => Mo.lv (s4.2 + (-1)) (fun v11 => Mo.pure (Sum.inl (v10, v11))))))) (0, v3)) (fun e7 => Mo.bind (gI [2] p1 3) (fun v12 => Mo.pure ((100 * e7) + v12))))))
set_option maxHeartbeats 4000000 in
theorem ct_X1_code (G : gG) (p1 : Nat) : gCt G yX1_code cX1_code 3 (some .int) 1 21 [.ref p1] (M_X1_code p1) (fun x : Int32 => some (.int x)) := by
  refine gCt.of (by decide) (Nat.le_of_ble_eq_true rfl) (fun K r hG X hd ho => ?_)
  subst hG
  have X : gX K cX1_code 3 "BitingDoors" "code" (some .int) 1 21 := X
  have hle : gLe (kh1 K) (kh1 K) := gLe.rf
  show V K 3 (kh0 K) 0 [(0, .ref p1)] []
  generalize kh0 K = h at hd ⊢
  unfold M_X1_code at hd
  refine v_iconst (v := 0) X dX1_code_0 (by decide) ?_
  refine v_istore_n (lv2 := [(1, .int 0), (0, .ref p1)]) X dX1_code_1 1 rfl (by decide) rfl ?_
  refine v_iconst (v := 5) X dX1_code_2 (by decide) ?_
  refine v_aload_n X dX1_code_3 1 0 rfl rfl ?_
  refine v_getR X hd fl_X1_243 dX1_code_4 (fun v1 hd => ?_)
  refine v_getI X hd fl_X1_247 dX1_code_7 (fun v2 hd => ?_)
  refine v_mmin X hd hle q1261 q976 q127 q977 (by decide +kernel) (Nat.le_of_ble_eq_true rfl) (by decide) (by decide) dX1_code_10 ?_
  refine v_iconst (v := 1) X dX1_code_13 (by decide) ?_
  refine v_isub X dX1_code_14 ?_
  refine v_lvI hd (fun v3 hd => ?_)
  refine v_istore_n (lv2 := [(2, .int v3), (1, .int 0), (0, .ref p1)]) X dX1_code_15 2 rfl (by decide) rfl ?_
  obtain ⟨e7, h1, hd, hd2⟩ := Mo.bind_some hd
  have KX : V K 3 h1 37 [(0, .ref p1), (1, .int e7)] [] := by
    clear hd
    have hd := hd2
    refine v_bipush (v := 100) X dX1_code_37 (by decide) ?_
    refine v_iload_n X dX1_code_39 1 1 rfl rfl ?_
    refine v_imul X dX1_code_40 ?_
    refine v_aload_n X dX1_code_41 0 0 rfl rfl ?_
    refine v_getI X hd fl_X1_418 dX1_code_42 (fun v12 hd => ?_)
    refine v_iadd X dX1_code_45 ?_
    exact v_iret X hd ho dX1_code_46
  have hle := (Mo.le hd2).tr hle
  clear hd2
  refine v_loc [2, 1, 0] rfl ?_
  refine loop_ind hd (fun (s4 : Int32 × Int32) h => V K 3 h 16 [(0, .ref p1), (1, .int s4.1), (2, .int s4.2)] []) (fun s4 h x h2 hd hle0 ih5 ho6 => ?_)
  have hle := hle0.tr hle
  refine v_iload_n X dX1_code_16 2 2 rfl rfl ?_
  refine v_if_lt (tgt := 37) X dX1_code_17 (by decide) (fun q => ?_) (fun q => ?_)
  · have hd := ite_t q hd
    exact v_loc [0, 1] rfl (v_at (P := fun (e7 : Int32) h => V K 3 h 37 [(0, .ref p1), (1, .int e7)] []) (lp_out hd ho6) KX)
  · have hd := ite_f q hd
    refine v_iconst (v := 3) X dX1_code_20 (by decide) ?_
    refine v_iload_n X dX1_code_21 1 1 rfl rfl ?_
    refine v_imul X dX1_code_22 ?_
    refine v_aload_n X dX1_code_23 0 0 rfl rfl ?_
    refine v_getR X hd fl_X1_289 dX1_code_24 (fun v8 hd => ?_)
    refine v_iload_n X dX1_code_27 2 2 rfl rfl ?_
    refine v_iald X hd dX1_code_28 (fun v9 hd => ?_)
    refine v_iadd X dX1_code_29 ?_
    refine v_lvI hd (fun v10 hd => ?_)
    refine v_istore_n (lv2 := [(1, .int v10), (0, .ref p1), (2, .int s4.2)]) X dX1_code_30 1 rfl (by decide) rfl ?_
    refine v_iincL (lv2 := fun v11 => [(2, .int v11), (1, .int v10), (0, .ref p1)]) X hd dX1_code_31 2 rfl (by decide : Int32.ofInt (-1) = (-1)) (by decide) (fun v11 => rfl) (fun v11 hd => ?_)
    refine v_goto (tgt := 16) X dX1_code_34 (by decide) ?_
    exact v_loc [2, 1, 0] rfl (lp_in (P := fun (s4 : Int32 × Int32) h => V K 3 h 16 [(0, .ref p1), (1, .int s4.1), (2, .int s4.2)] []) hd ih5)
def dkwX1_forcedAt_1 : List UInt8 := [172]
abbrev dktX1_forcedAt_1 : List UInt8 := dkwX1_forcedAt_1 ++ []
def dkwX1_forcedAt_0 : List UInt8 := [27, 3, 42, 180, 1, 127, 4, 100, 184, 0, 248, 153, 0, 12, 42, 180, 0, 136, 27, 46, 167, 0, 4, 2]
abbrev dktX1_forcedAt_0 : List UInt8 := dkwX1_forcedAt_0 ++ dktX1_forcedAt_1
theorem dksX1_forcedAt_0 : cX1_forcedAt.data.toList.drop 0 = dktX1_forcedAt_0 := by decide +kernel
theorem dksX1_forcedAt_1 : cX1_forcedAt.data.toList.drop 24 = dktX1_forcedAt_1 := dk_seg dksX1_forcedAt_0 24 rfl rfl
theorem dX1_forcedAt_0 : decode cX1_forcedAt 0 = .ok (.iload_n 1, 1) := dk_27 (dk_at dksX1_forcedAt_0 0 rfl rfl)
theorem dX1_forcedAt_1 : decode cX1_forcedAt 1 = .ok (.iconst 0, 1) := dk_3 (dk_at dksX1_forcedAt_0 1 rfl rfl)
theorem dX1_forcedAt_2 : decode cX1_forcedAt 2 = .ok (.aload_n 0, 1) := dk_42 (dk_at dksX1_forcedAt_0 2 rfl rfl)
theorem dX1_forcedAt_3 : decode cX1_forcedAt 3 = .ok (.getfield 383, 3) := dk_180 1 127 (dk_at dksX1_forcedAt_0 3 rfl rfl)
theorem dX1_forcedAt_6 : decode cX1_forcedAt 6 = .ok (.iconst 1, 1) := dk_4 (dk_at dksX1_forcedAt_0 6 rfl rfl)
theorem dX1_forcedAt_7 : decode cX1_forcedAt 7 = .ok (.isub, 1) := dk_100 (dk_at dksX1_forcedAt_0 7 rfl rfl)
theorem dX1_forcedAt_8 : decode cX1_forcedAt 8 = .ok (.invokestatic 248, 3) := dk_184 0 248 (dk_at dksX1_forcedAt_0 8 rfl rfl)
theorem dX1_forcedAt_11 : decode cX1_forcedAt 11 = .ok (.ifCond .eq 12, 3) := dk_153 0 12 (dk_at dksX1_forcedAt_0 11 rfl rfl)
theorem dX1_forcedAt_14 : decode cX1_forcedAt 14 = .ok (.aload_n 0, 1) := dk_42 (dk_at dksX1_forcedAt_0 14 rfl rfl)
theorem dX1_forcedAt_15 : decode cX1_forcedAt 15 = .ok (.getfield 136, 3) := dk_180 0 136 (dk_at dksX1_forcedAt_0 15 rfl rfl)
theorem dX1_forcedAt_18 : decode cX1_forcedAt 18 = .ok (.iload_n 1, 1) := dk_27 (dk_at dksX1_forcedAt_0 18 rfl rfl)
theorem dX1_forcedAt_19 : decode cX1_forcedAt 19 = .ok (.iaload, 1) := dk_46 (dk_at dksX1_forcedAt_0 19 rfl rfl)
theorem dX1_forcedAt_20 : decode cX1_forcedAt 20 = .ok (.goto 4, 3) := dk_167 0 4 (dk_at dksX1_forcedAt_0 20 rfl rfl)
theorem dX1_forcedAt_23 : decode cX1_forcedAt 23 = .ok (.iconst (-1), 1) := dk_2 (dk_at dksX1_forcedAt_0 23 rfl rfl)
theorem dX1_forcedAt_24 : decode cX1_forcedAt 24 = .ok (.ireturn, 1) := dk_172 (dk_at dksX1_forcedAt_1 0 rfl rfl)
theorem fl_X1_136 : gFl "BitingDoors" 136 [0] 23 := by
  intro args s hts hN ci hc
  simp only [List.mem_cons, List.not_mem_nil, or_false] at hc
  subst hc
  exact ⟨RX1, TX1, 46, "BitingDoors", gCl_X1, in_X1, by decide, Or.inl (hts _ q524), fun _ h => h⟩
theorem fl_X1_383 : gFl "BitingDoors" 383 [0] 25 := by
  intro args s hts hN ci hc
  simp only [List.mem_cons, List.not_mem_nil, or_false] at hc
  subst hc
  exact ⟨RX1, TX1, 46, "BitingDoors", gCl_X1, in_X1, by decide, Or.inl (hts _ q526), fun _ h => h⟩
theorem dn_X1_forcedAt : yX1_forcedAt.cls ≠ "java/lang/invoke/MethodHandle" ∧ yX1_forcedAt.cls ≠ "java/lang/invoke/VarHandle" ∧ (parseMethodDescriptor yX1_forcedAt.desc).map (fun d => d.parameters.length) = some 1 := by decide +kernel
noncomputable def M_X1_forcedAt (t : Nat) (p1 : Int32) : Mo Int32 := Mo.bind (chk [0] t) (fun _ => Mo.bind (gI [0] t 25) (fun v1 => Mo.bind (M_X1_isIn p1 0 (v1 - 1)) (fun v2 => Mo.bind ((cond v2 (Mo.bind (gR [0] t 23) (fun v4 => Mo.bind (aldI 0 v4 p1) (fun v5 => Mo.pure v5))) (Mo.pure (-1)) : Mo (Int32))) (fun u3 => Mo.pure u3))))
set_option maxHeartbeats 4000000 in
theorem ct_X1_forcedAt (G : gG) (t : Nat) (p1 : Int32) : gCt G yX1_forcedAt cX1_forcedAt 2 (some .int) 1 22 [.ref t, .int p1] (M_X1_forcedAt t p1) (fun x : Int32 => some (.int x)) := by
  refine gCt.of (by decide) (Nat.le_of_ble_eq_true rfl) (fun K r hG X hd ho => ?_)
  subst hG
  have X : gX K cX1_forcedAt 2 "BitingDoors" "forcedAt" (some .int) 1 22 := X
  have hle : gLe (kh1 K) (kh1 K) := gLe.rf
  show V K 2 (kh0 K) 0 [(0, .ref t), (1, .int p1)] []
  generalize kh0 K = h at hd ⊢
  unfold M_X1_forcedAt at hd
  obtain ⟨-, hd⟩ := chk_some hd
  refine v_iload_n X dX1_forcedAt_0 1 1 rfl rfl ?_
  refine v_iconst (v := 0) X dX1_forcedAt_1 (by decide) ?_
  refine v_aload_n X dX1_forcedAt_2 0 0 rfl rfl ?_
  refine v_getI X hd fl_X1_383 dX1_forcedAt_3 (fun v1 hd => ?_)
  refine v_iconst (v := 1) X dX1_forcedAt_6 (by decide) ?_
  refine v_isub X dX1_forcedAt_7 ?_
  refine v_callS X hd hle (ct_X1_isIn _ p1 0 (v1 - 1)) (lw_S q1119 q688 q109 q689) dn_X1_isIn rfl ⟨by decide, by decide⟩ rfl (Nat.le_of_ble_eq_true rfl) dX1_forcedAt_8 (fun v2 h hd => ?_)
  show V K 2 h 11 [(0, .ref t), (1, .int p1)] [.int (b2i v2)]
  obtain ⟨u3, h1, hd, hd2⟩ := Mo.bind_some hd
  have KJ : V K 2 h1 24 [] [.int u3] := by
    clear hd
    have hd := hd2
    exact v_iret X hd ho dX1_forcedAt_24
  have hle := (Mo.le hd2).tr hle
  clear hd2
  refine v_ifZ_eq (tgt := 23) X dX1_forcedAt_11 (by decide) (fun q => ?_) (fun q => ?_)
  · have hd := cnd_f q hd
    refine v_iconst (v := (-1)) X dX1_forcedAt_23 (by decide) ?_
    exact v_loc [] rfl (v_at (P := fun (u3 : Int32) h => V K 2 h 24 [] [.int u3]) hd KJ)
  · have hd := cnd_t q hd
    refine v_aload_n X dX1_forcedAt_14 0 0 rfl rfl ?_
    refine v_getR X hd fl_X1_136 dX1_forcedAt_15 (fun v4 hd => ?_)
    refine v_iload_n X dX1_forcedAt_18 1 1 rfl rfl ?_
    refine v_iald X hd dX1_forcedAt_19 (fun v5 hd => ?_)
    refine v_goto (tgt := 24) X dX1_forcedAt_20 (by decide) ?_
    exact v_loc [] rfl (v_at (P := fun (u3 : Int32) h => V K 2 h 24 [] [.int u3]) hd KJ)
def dkwX17_act_0 : List UInt8 := [7, 5, 42, 180, 0, 9, 104, 96, 4, 96, 172]
abbrev dktX17_act_0 : List UInt8 := dkwX17_act_0 ++ []
theorem dksX17_act_0 : cX17_act.data.toList.drop 0 = dktX17_act_0 := by decide +kernel
theorem dX17_act_0 : decode cX17_act 0 = .ok (.iconst 4, 1) := dk_7 (dk_at dksX17_act_0 0 rfl rfl)
theorem dX17_act_1 : decode cX17_act 1 = .ok (.iconst 2, 1) := dk_5 (dk_at dksX17_act_0 1 rfl rfl)
theorem dX17_act_2 : decode cX17_act 2 = .ok (.aload_n 0, 1) := dk_42 (dk_at dksX17_act_0 2 rfl rfl)
theorem dX17_act_3 : decode cX17_act 3 = .ok (.getfield 9, 3) := dk_180 0 9 (dk_at dksX17_act_0 3 rfl rfl)
theorem dX17_act_6 : decode cX17_act 6 = .ok (.imul, 1) := dk_104 (dk_at dksX17_act_0 6 rfl rfl)
theorem dX17_act_7 : decode cX17_act 7 = .ok (.iadd, 1) := dk_96 (dk_at dksX17_act_0 7 rfl rfl)
theorem dX17_act_8 : decode cX17_act 8 = .ok (.iconst 1, 1) := dk_4 (dk_at dksX17_act_0 8 rfl rfl)
theorem dX17_act_9 : decode cX17_act 9 = .ok (.iadd, 1) := dk_96 (dk_at dksX17_act_0 9 rfl rfl)
theorem dX17_act_10 : decode cX17_act 10 = .ok (.ireturn, 1) := dk_172 (dk_at dksX17_act_0 10 rfl rfl)
theorem fl_X17_9 : gFl "BitingDoors$Shut" 9 [13] 0 := by
  intro args s hts hN ci hc
  simp only [List.mem_cons, List.not_mem_nil, or_false] at hc
  subst hc
  exact ⟨RX17, TX17, 1, "BitingDoors$Shut", gCl_X17, in_X17, by decide, Or.inl (hts _ q1080), u_same (hts _ q1081)⟩
theorem dn_X17_act : yX17_act.cls ≠ "java/lang/invoke/MethodHandle" ∧ yX17_act.cls ≠ "java/lang/invoke/VarHandle" ∧ (parseMethodDescriptor yX17_act.desc).map (fun d => d.parameters.length) = some 0 := by decide +kernel
noncomputable def M_X17_act (t : Nat) : Mo Int32 := Mo.bind (chk [13] t) (fun _ => Mo.bind (gI [13] t 0) (fun v1 => Mo.pure ((4 + (2 * v1)) + 1)))
set_option maxHeartbeats 4000000 in
theorem ct_X17_act (G : gG) (t : Nat) : gCt G yX17_act cX17_act 1 (some .int) 0 0 [.ref t] (M_X17_act t) (fun x : Int32 => some (.int x)) := by
  refine gCt.of (by decide) (Nat.le_of_ble_eq_true rfl) (fun K r hG X hd ho => ?_)
  subst hG
  have X : gX K cX17_act 1 "BitingDoors$Shut" "act" (some .int) 0 0 := X
  have hle : gLe (kh1 K) (kh1 K) := gLe.rf
  show V K 1 (kh0 K) 0 [(0, .ref t)] []
  generalize kh0 K = h at hd ⊢
  unfold M_X17_act at hd
  obtain ⟨-, hd⟩ := chk_some hd
  refine v_iconst (v := 4) X dX17_act_0 (by decide) ?_
  refine v_iconst (v := 2) X dX17_act_1 (by decide) ?_
  refine v_aload_n X dX17_act_2 0 0 rfl rfl ?_
  refine v_getI X hd fl_X17_9 dX17_act_3 (fun v1 hd => ?_)
  refine v_imul X dX17_act_6 ?_
  refine v_iadd X dX17_act_7 ?_
  refine v_iconst (v := 1) X dX17_act_8 (by decide) ?_
  refine v_iadd X dX17_act_9 ?_
  exact v_iret X hd ho dX17_act_10
theorem dX17_goal_0 : decode cX17_goal 0 = .ok (.iconst 0, 1) := by decide +kernel
theorem dX17_goal_1 : decode cX17_goal 1 = .ok (.ireturn, 1) := by decide +kernel
theorem dn_X17_goal : yX17_goal.cls ≠ "java/lang/invoke/MethodHandle" ∧ yX17_goal.cls ≠ "java/lang/invoke/VarHandle" ∧ (parseMethodDescriptor yX17_goal.desc).map (fun d => d.parameters.length) = some 1 := by decide +kernel
noncomputable def M_X17_goal (t : Nat) (p1 : Nat) : Mo Int32 := Mo.bind (chk [13] t) (fun _ => Mo.pure 0)
set_option maxHeartbeats 4000000 in
theorem ct_X17_goal (G : gG) (t : Nat) (p1 : Nat) : gCt G yX17_goal cX17_goal 2 (some .int) 0 0 [.ref t, .ref p1] (M_X17_goal t p1) (fun x : Int32 => some (.int x)) := by
  refine gCt.of (by decide) (Nat.le_of_ble_eq_true rfl) (fun K r hG X hd ho => ?_)
  subst hG
  have X : gX K cX17_goal 2 "BitingDoors$Shut" "goal" (some .int) 0 0 := X
  have hle : gLe (kh1 K) (kh1 K) := gLe.rf
  show V K 2 (kh0 K) 0 [(0, .ref t), (1, .ref p1)] []
  generalize kh0 K = h at hd ⊢
  unfold M_X17_goal at hd
  obtain ⟨-, hd⟩ := chk_some hd
  refine v_iconst (v := 0) X dX17_goal_0 (by decide) ?_
  exact v_iret X hd ho dX17_goal_1
def dkwX1_fewestBy_1 : List UInt8 := [2, 172]
abbrev dktX1_fewestBy_1 : List UInt8 := dkwX1_fewestBy_1 ++ []
def dkwX1_fewestBy_0 : List UInt8 := [42, 27, 182, 1, 7, 153, 0, 19, 42, 182, 1, 118, 153, 0, 12, 42, 180, 0, 127, 27, 46, 167, 0, 4]
abbrev dktX1_fewestBy_0 : List UInt8 := dkwX1_fewestBy_0 ++ dktX1_fewestBy_1
theorem dksX1_fewestBy_0 : cX1_fewestBy.data.toList.drop 0 = dktX1_fewestBy_0 := by decide +kernel
theorem dksX1_fewestBy_1 : cX1_fewestBy.data.toList.drop 24 = dktX1_fewestBy_1 := dk_seg dksX1_fewestBy_0 24 rfl rfl
theorem dX1_fewestBy_0 : decode cX1_fewestBy 0 = .ok (.aload_n 0, 1) := dk_42 (dk_at dksX1_fewestBy_0 0 rfl rfl)
theorem dX1_fewestBy_1 : decode cX1_fewestBy 1 = .ok (.iload_n 1, 1) := dk_27 (dk_at dksX1_fewestBy_0 1 rfl rfl)
theorem dX1_fewestBy_2 : decode cX1_fewestBy 2 = .ok (.invokevirtual 263, 3) := dk_182 1 7 (dk_at dksX1_fewestBy_0 2 rfl rfl)
theorem dX1_fewestBy_5 : decode cX1_fewestBy 5 = .ok (.ifCond .eq 19, 3) := dk_153 0 19 (dk_at dksX1_fewestBy_0 5 rfl rfl)
theorem dX1_fewestBy_8 : decode cX1_fewestBy 8 = .ok (.aload_n 0, 1) := dk_42 (dk_at dksX1_fewestBy_0 8 rfl rfl)
theorem dX1_fewestBy_9 : decode cX1_fewestBy 9 = .ok (.invokevirtual 374, 3) := dk_182 1 118 (dk_at dksX1_fewestBy_0 9 rfl rfl)
theorem dX1_fewestBy_12 : decode cX1_fewestBy 12 = .ok (.ifCond .eq 12, 3) := dk_153 0 12 (dk_at dksX1_fewestBy_0 12 rfl rfl)
theorem dX1_fewestBy_15 : decode cX1_fewestBy 15 = .ok (.aload_n 0, 1) := dk_42 (dk_at dksX1_fewestBy_0 15 rfl rfl)
theorem dX1_fewestBy_16 : decode cX1_fewestBy 16 = .ok (.getfield 127, 3) := dk_180 0 127 (dk_at dksX1_fewestBy_0 16 rfl rfl)
theorem dX1_fewestBy_19 : decode cX1_fewestBy 19 = .ok (.iload_n 1, 1) := dk_27 (dk_at dksX1_fewestBy_0 19 rfl rfl)
theorem dX1_fewestBy_20 : decode cX1_fewestBy 20 = .ok (.iaload, 1) := dk_46 (dk_at dksX1_fewestBy_0 20 rfl rfl)
theorem dX1_fewestBy_21 : decode cX1_fewestBy 21 = .ok (.goto 4, 3) := dk_167 0 4 (dk_at dksX1_fewestBy_0 21 rfl rfl)
theorem dX1_fewestBy_24 : decode cX1_fewestBy 24 = .ok (.iconst (-1), 1) := dk_2 (dk_at dksX1_fewestBy_1 0 rfl rfl)
theorem dX1_fewestBy_25 : decode cX1_fewestBy 25 = .ok (.ireturn, 1) := dk_172 (dk_at dksX1_fewestBy_1 1 rfl rfl)
theorem dn_X1_fewestBy : yX1_fewestBy.cls ≠ "java/lang/invoke/MethodHandle" ∧ yX1_fewestBy.cls ≠ "java/lang/invoke/VarHandle" ∧ (parseMethodDescriptor yX1_fewestBy.desc).map (fun d => d.parameters.length) = some 1 := by decide +kernel
noncomputable def M_X1_fewestBy (t : Nat) (p1 : Int32) : Mo Int32 := Mo.bind (chk [0] t) (fun _ => Mo.bind (M_X1_isDoor t p1) (fun v1 => Mo.bind ((cond v1 (Mo.bind (M_X1_findFewest t) (fun v3 => cond v3 (Mo.bind (gR [0] t 17) (fun v4 => Mo.bind (aldI 0 v4 p1) (fun v5 => Mo.pure v5))) (Mo.pure (-1)))) (Mo.pure (-1)) : Mo (Int32))) (fun u2 => Mo.pure u2)))
set_option maxHeartbeats 4000000 in
theorem ct_X1_fewestBy (G : gG) (t : Nat) (p1 : Int32) : gCt G yX1_fewestBy cX1_fewestBy 2 (some .int) 16 405 [.ref t, .int p1] (M_X1_fewestBy t p1) (fun x : Int32 => some (.int x)) := by
  refine gCt.of (by decide) (Nat.le_of_ble_eq_true rfl) (fun K r hG X hd ho => ?_)
  subst hG
  have X : gX K cX1_fewestBy 2 "BitingDoors" "fewestBy" (some .int) 16 405 := X
  have hle : gLe (kh1 K) (kh1 K) := gLe.rf
  show V K 2 (kh0 K) 0 [(0, .ref t), (1, .int p1)] []
  generalize kh0 K = h at hd ⊢
  unfold M_X1_fewestBy at hd
  obtain ⟨-, hd⟩ := chk_some hd
  refine v_aload_n X dX1_fewestBy_0 0 0 rfl rfl ?_
  refine v_iload_n X dX1_fewestBy_1 1 1 rfl rfl ?_
  refine v_callV X hd hle (ct_X1_isDoor _ t p1) gCl_X1 (lw_V q1115 q1117 qs12 q109 q1118) ⟨rfl, dn_X1_isDoor⟩ rfl ⟨by decide, by decide⟩ rfl (Nat.le_of_ble_eq_true rfl) dX1_fewestBy_2 (fun v1 h hd => ?_)
  show V K 2 h 5 [(0, .ref t), (1, .int p1)] [.int (b2i v1)]
  obtain ⟨u2, h1, hd, hd2⟩ := Mo.bind_some hd
  have KJ : V K 2 h1 25 [] [.int u2] := by
    clear hd
    have hd := hd2
    exact v_iret X hd ho dX1_fewestBy_25
  have hle := (Mo.le hd2).tr hle
  clear hd2
  refine v_ifZ_eq (tgt := 24) X dX1_fewestBy_5 (by decide) (fun q => ?_) (fun q => ?_)
  · have hd := cnd_f q hd
    refine v_iconst (v := (-1)) X dX1_fewestBy_24 (by decide) ?_
    exact v_loc [] rfl (v_at (P := fun (u2 : Int32) h => V K 2 h 25 [] [.int u2]) hd KJ)
  · have hd := cnd_t q hd
    refine v_aload_n X dX1_fewestBy_8 0 0 rfl rfl ?_
    refine v_callV X hd hle (ct_X1_findFewest _ t) gCl_X1 (lw_V q1202 q1204 qs19 q109 q1205) ⟨rfl, dn_X1_findFewest⟩ rfl ⟨by decide, by decide⟩ rfl (Nat.le_of_ble_eq_true rfl) dX1_fewestBy_9 (fun v3 h hd => ?_)
    show V K 2 h 12 [(0, .ref t), (1, .int p1)] [.int (b2i v3)]
    refine v_ifZ_eq (tgt := 24) X dX1_fewestBy_12 (by decide) (fun q => ?_) (fun q => ?_)
    · have hd := cnd_f q hd
      refine v_iconst (v := (-1)) X dX1_fewestBy_24 (by decide) ?_
      exact v_loc [] rfl (v_at (P := fun (u2 : Int32) h => V K 2 h 25 [] [.int u2]) hd KJ)
    · have hd := cnd_t q hd
      refine v_aload_n X dX1_fewestBy_15 0 0 rfl rfl ?_
      refine v_getR X hd fl_X1_127 dX1_fewestBy_16 (fun v4 hd => ?_)
      refine v_iload_n X dX1_fewestBy_19 1 1 rfl rfl ?_
      refine v_iald X hd dX1_fewestBy_20 (fun v5 hd => ?_)
      refine v_goto (tgt := 25) X dX1_fewestBy_21 (by decide) ?_
      exact v_loc [] rfl (v_at (P := fun (u2 : Int32) h => V K 2 h 25 [] [.int u2]) hd KJ)
def dkwX1_taken_0 : List UInt8 := [42, 42, 180, 0, 194, 181, 0, 201, 42, 3, 181, 0, 194, 177]
abbrev dktX1_taken_0 : List UInt8 := dkwX1_taken_0 ++ []
theorem dksX1_taken_0 : cX1_taken.data.toList.drop 0 = dktX1_taken_0 := by decide +kernel
theorem dX1_taken_0 : decode cX1_taken 0 = .ok (.aload_n 0, 1) := dk_42 (dk_at dksX1_taken_0 0 rfl rfl)
theorem dX1_taken_1 : decode cX1_taken 1 = .ok (.aload_n 0, 1) := dk_42 (dk_at dksX1_taken_0 1 rfl rfl)
theorem dX1_taken_2 : decode cX1_taken 2 = .ok (.getfield 194, 3) := dk_180 0 194 (dk_at dksX1_taken_0 2 rfl rfl)
theorem dX1_taken_5 : decode cX1_taken 5 = .ok (.putfield 201, 3) := dk_181 0 201 (dk_at dksX1_taken_0 5 rfl rfl)
theorem dX1_taken_8 : decode cX1_taken 8 = .ok (.aload_n 0, 1) := dk_42 (dk_at dksX1_taken_0 8 rfl rfl)
theorem dX1_taken_9 : decode cX1_taken 9 = .ok (.iconst 0, 1) := dk_3 (dk_at dksX1_taken_0 9 rfl rfl)
theorem dX1_taken_10 : decode cX1_taken 10 = .ok (.putfield 194, 3) := dk_181 0 194 (dk_at dksX1_taken_0 10 rfl rfl)
theorem dX1_taken_13 : decode cX1_taken 13 = .ok (.return_, 1) := dk_177 (dk_at dksX1_taken_0 13 rfl rfl)
theorem fp_X1_201 {nm : String} : gFp "BitingDoors" nm 201 [0] 2 .int := by
  intro args s hts hN ci hc
  simp only [List.mem_cons, List.not_mem_nil, or_false] at hc
  subst hc
  exact ⟨RX1, TX1, 46, "BitingDoors", gCl_X1, in_X1, by decide, Or.inl ⟨rfl, Or.inl (hts _ q497)⟩, fun _ h => h, rfl, fun D tys hK => gap_X1 hts hK⟩
theorem dn_X1_taken : yX1_taken.cls ≠ "java/lang/invoke/MethodHandle" ∧ yX1_taken.cls ≠ "java/lang/invoke/VarHandle" ∧ (parseMethodDescriptor yX1_taken.desc).map (fun d => d.parameters.length) = some 0 := by decide +kernel
noncomputable def M_X1_taken (t : Nat) : Mo Unit := Mo.bind (chk [0] t) (fun _ => Mo.bind (gI [0] t 1) (fun v1 => Mo.bind (pF [0] t 2 (.int v1)) (fun _ => Mo.bind (pF [0] t 1 (.int 0)) (fun _ => Mo.pure ()))))
set_option maxHeartbeats 4000000 in
theorem ct_X1_taken (G : gG) (t : Nat) : gCt G yX1_taken cX1_taken 1 none 0 0 [.ref t] (M_X1_taken t) (fun _ : Unit => none) := by
  refine gCt.of (by decide) (Nat.le_of_ble_eq_true rfl) (fun K r hG X hd ho => ?_)
  subst hG
  have X : gX K cX1_taken 1 "BitingDoors" "taken" none 0 0 := X
  have hle : gLe (kh1 K) (kh1 K) := gLe.rf
  show V K 1 (kh0 K) 0 [(0, .ref t)] []
  generalize kh0 K = h at hd ⊢
  unfold M_X1_taken at hd
  obtain ⟨-, hd⟩ := chk_some hd
  refine v_aload_n X dX1_taken_0 0 0 rfl rfl ?_
  refine v_aload_n X dX1_taken_1 0 0 rfl rfl ?_
  refine v_getI X hd fl_X1_194 dX1_taken_2 (fun v1 hd => ?_)
  refine v_put (v := .int v1) X hd fp_X1_201 rfl rfl dX1_taken_5 (fun h hd => ?_)
  refine v_aload_n X dX1_taken_8 0 0 rfl rfl ?_
  refine v_iconst (v := 0) X dX1_taken_9 (by decide) ?_
  refine v_put (v := .int 0) X hd fp_X1_194 rfl rfl dX1_taken_10 (fun h hd => ?_)
  exact v_vret X hd ho dX1_taken_13
def dkwX1_bites_2 : List UInt8 := [42, 29, 182, 1, 15, 180, 1, 61, 21, 4, 50, 182, 1, 65, 167, 0, 4, 2, 172]
abbrev dktX1_bites_2 : List UInt8 := dkwX1_bites_2 ++ []
def dkwX1_bites_1 : List UInt8 := [184, 1, 42, 153, 0, 38, 21, 4, 184, 1, 42, 153, 0, 30, 42, 27, 182, 1, 15, 180, 1, 61, 28, 50]
abbrev dktX1_bites_1 : List UInt8 := dkwX1_bites_1 ++ dktX1_bites_2
def dkwX1_bites_0 : List UInt8 := [27, 29, 159, 0, 61, 42, 27, 182, 1, 7, 153, 0, 53, 42, 29, 182, 1, 7, 153, 0, 45, 28]
abbrev dktX1_bites_0 : List UInt8 := dkwX1_bites_0 ++ dktX1_bites_1
theorem dksX1_bites_0 : cX1_bites.data.toList.drop 0 = dktX1_bites_0 := by decide +kernel
theorem dksX1_bites_1 : cX1_bites.data.toList.drop 22 = dktX1_bites_1 := dk_seg dksX1_bites_0 22 rfl rfl
theorem dksX1_bites_2 : cX1_bites.data.toList.drop 46 = dktX1_bites_2 := dk_seg dksX1_bites_1 24 rfl rfl
theorem dX1_bites_0 : decode cX1_bites 0 = .ok (.iload_n 1, 1) := dk_27 (dk_at dksX1_bites_0 0 rfl rfl)
theorem dX1_bites_1 : decode cX1_bites 1 = .ok (.iload_n 3, 1) := dk_29 (dk_at dksX1_bites_0 1 rfl rfl)
theorem dX1_bites_2 : decode cX1_bites 2 = .ok (.if_icmp .eq 61, 3) := dk_159 0 61 (dk_at dksX1_bites_0 2 rfl rfl)
theorem dX1_bites_5 : decode cX1_bites 5 = .ok (.aload_n 0, 1) := dk_42 (dk_at dksX1_bites_0 5 rfl rfl)
theorem dX1_bites_6 : decode cX1_bites 6 = .ok (.iload_n 1, 1) := dk_27 (dk_at dksX1_bites_0 6 rfl rfl)
theorem dX1_bites_7 : decode cX1_bites 7 = .ok (.invokevirtual 263, 3) := dk_182 1 7 (dk_at dksX1_bites_0 7 rfl rfl)
theorem dX1_bites_10 : decode cX1_bites 10 = .ok (.ifCond .eq 53, 3) := dk_153 0 53 (dk_at dksX1_bites_0 10 rfl rfl)
theorem dX1_bites_13 : decode cX1_bites 13 = .ok (.aload_n 0, 1) := dk_42 (dk_at dksX1_bites_0 13 rfl rfl)
theorem dX1_bites_14 : decode cX1_bites 14 = .ok (.iload_n 3, 1) := dk_29 (dk_at dksX1_bites_0 14 rfl rfl)
theorem dX1_bites_15 : decode cX1_bites 15 = .ok (.invokevirtual 263, 3) := dk_182 1 7 (dk_at dksX1_bites_0 15 rfl rfl)
theorem dX1_bites_18 : decode cX1_bites 18 = .ok (.ifCond .eq 45, 3) := dk_153 0 45 (dk_at dksX1_bites_0 18 rfl rfl)
theorem dX1_bites_21 : decode cX1_bites 21 = .ok (.iload_n 2, 1) := dk_28 (dk_at dksX1_bites_0 21 rfl rfl)
theorem dX1_bites_22 : decode cX1_bites 22 = .ok (.invokestatic 298, 3) := dk_184 1 42 (dk_at dksX1_bites_1 0 rfl rfl)
theorem dX1_bites_25 : decode cX1_bites 25 = .ok (.ifCond .eq 38, 3) := dk_153 0 38 (dk_at dksX1_bites_1 3 rfl rfl)
theorem dX1_bites_28 : decode cX1_bites 28 = .ok (.iload 4, 2) := dk_21 4 (dk_at dksX1_bites_1 6 rfl rfl)
theorem dX1_bites_30 : decode cX1_bites 30 = .ok (.invokestatic 298, 3) := dk_184 1 42 (dk_at dksX1_bites_1 8 rfl rfl)
theorem dX1_bites_33 : decode cX1_bites 33 = .ok (.ifCond .eq 30, 3) := dk_153 0 30 (dk_at dksX1_bites_1 11 rfl rfl)
theorem dX1_bites_36 : decode cX1_bites 36 = .ok (.aload_n 0, 1) := dk_42 (dk_at dksX1_bites_1 14 rfl rfl)
theorem dX1_bites_37 : decode cX1_bites 37 = .ok (.iload_n 1, 1) := dk_27 (dk_at dksX1_bites_1 15 rfl rfl)
theorem dX1_bites_38 : decode cX1_bites 38 = .ok (.invokevirtual 271, 3) := dk_182 1 15 (dk_at dksX1_bites_1 16 rfl rfl)
theorem dX1_bites_41 : decode cX1_bites 41 = .ok (.getfield 317, 3) := dk_180 1 61 (dk_at dksX1_bites_1 19 rfl rfl)
theorem dX1_bites_44 : decode cX1_bites 44 = .ok (.iload_n 2, 1) := dk_28 (dk_at dksX1_bites_1 22 rfl rfl)
theorem dX1_bites_45 : decode cX1_bites 45 = .ok (.aaload, 1) := dk_50 (dk_at dksX1_bites_1 23 rfl rfl)
theorem dX1_bites_46 : decode cX1_bites 46 = .ok (.aload_n 0, 1) := dk_42 (dk_at dksX1_bites_2 0 rfl rfl)
theorem dX1_bites_47 : decode cX1_bites 47 = .ok (.iload_n 3, 1) := dk_29 (dk_at dksX1_bites_2 1 rfl rfl)
theorem dX1_bites_48 : decode cX1_bites 48 = .ok (.invokevirtual 271, 3) := dk_182 1 15 (dk_at dksX1_bites_2 2 rfl rfl)
theorem dX1_bites_51 : decode cX1_bites 51 = .ok (.getfield 317, 3) := dk_180 1 61 (dk_at dksX1_bites_2 5 rfl rfl)
theorem dX1_bites_54 : decode cX1_bites 54 = .ok (.iload 4, 2) := dk_21 4 (dk_at dksX1_bites_2 8 rfl rfl)
theorem dX1_bites_56 : decode cX1_bites 56 = .ok (.aaload, 1) := dk_50 (dk_at dksX1_bites_2 10 rfl rfl)
theorem dX1_bites_57 : decode cX1_bites 57 = .ok (.invokevirtual 321, 3) := dk_182 1 65 (dk_at dksX1_bites_2 11 rfl rfl)
theorem dX1_bites_60 : decode cX1_bites 60 = .ok (.goto 4, 3) := dk_167 0 4 (dk_at dksX1_bites_2 14 rfl rfl)
theorem dX1_bites_63 : decode cX1_bites 63 = .ok (.iconst (-1), 1) := dk_2 (dk_at dksX1_bites_2 17 rfl rfl)
theorem dX1_bites_64 : decode cX1_bites 64 = .ok (.ireturn, 1) := dk_172 (dk_at dksX1_bites_2 18 rfl rfl)
theorem fl_X1_317 : gFl "BitingDoors" 317 [9] 6 := by
  intro args s hts hN ci hc
  simp only [List.mem_cons, List.not_mem_nil, or_false] at hc
  subst hc
  exact ⟨RX11, TX11, 12, "BitingDoors$Door", gCl_X11, in_X11, by decide, Or.inr ⟨"BitingDoors", va_Nw.use rfl (hN.1 ("BitingDoors", 317, "BitingDoors$Door", "swept", "[LBitingDoors$Cells;", "BitingDoors") (List.mem_of_getElem? (i := 20) rfl))⟩, fun _ h => h⟩
theorem dn_X1_bites : yX1_bites.cls ≠ "java/lang/invoke/MethodHandle" ∧ yX1_bites.cls ≠ "java/lang/invoke/VarHandle" ∧ (parseMethodDescriptor yX1_bites.desc).map (fun d => d.parameters.length) = some 4 := by decide +kernel
noncomputable def M_X1_bites (t : Nat) (p1 : Int32) (p2 : Int32) (p3 : Int32) (p4 : Int32) : Mo Int32 := Mo.bind (chk [0] t) (fun _ => Mo.bind ((if p1 = p3 then Mo.pure (-1) else Mo.bind (M_X1_isDoor t p1) (fun v2 => cond v2 (Mo.bind (M_X1_isDoor t p3) (fun v3 => cond v3 (Mo.bind (M_X1_isHanging p2) (fun v4 => cond v4 (Mo.bind (M_X1_isHanging p4) (fun v5 => cond v5 (Mo.bind (M_X1_at t p1) (fun v6 => Mo.bind (gR [9] v6 6) (fun v7 => Mo.bind (aldR 4 v7 p2) (fun v8 => Mo.bind (M_X1_at t p3) (fun v9 => Mo.bind (gR [9] v9 6) (fun v10 => Mo.bind (aldR 4 v10 p4) (fun v11 => Mo.bind (M_X12_shared v8 v11) (fun v12 => Mo.pure v12)))))))) (Mo.pure (-1)))) (Mo.pure (-1)))) (Mo.pure (-1)))) (Mo.pure (-1))) : Mo (Int32))) (fun u1 => Mo.pure u1))
set_option maxHeartbeats 4000000 in
theorem ct_X1_bites (G : gG) (t : Nat) (p1 : Int32) (p2 : Int32) (p3 : Int32) (p4 : Int32) : gCt G yX1_bites cX1_bites 5 (some .int) 2 43 [.ref t, .int p1, .int p2, .int p3, .int p4] (M_X1_bites t p1 p2 p3 p4) (fun x : Int32 => some (.int x)) := by
  refine gCt.of (by decide) (Nat.le_of_ble_eq_true rfl) (fun K r hG X hd ho => ?_)
  subst hG
  have X : gX K cX1_bites 5 "BitingDoors" "bites" (some .int) 2 43 := X
  have hle : gLe (kh1 K) (kh1 K) := gLe.rf
  show V K 5 (kh0 K) 0 [(0, .ref t), (1, .int p1), (2, .int p2), (3, .int p3), (4, .int p4)] []
  generalize kh0 K = h at hd ⊢
  unfold M_X1_bites at hd
  obtain ⟨-, hd⟩ := chk_some hd
  refine v_iload_n X dX1_bites_0 1 1 rfl rfl ?_
  refine v_iload_n X dX1_bites_1 3 3 rfl rfl ?_
  obtain ⟨u1, h1, hd, hd2⟩ := Mo.bind_some hd
  have KJ : V K 5 h1 64 [] [.int u1] := by
    clear hd
    have hd := hd2
    exact v_iret X hd ho dX1_bites_64
  have hle := (Mo.le hd2).tr hle
  clear hd2
  refine v_icmp_eq (tgt := 63) X dX1_bites_2 (by decide) (fun q => ?_) (fun q => ?_)
  · have hd := ite_t q hd
    refine v_iconst (v := (-1)) X dX1_bites_63 (by decide) ?_
    exact v_loc [] rfl (v_at (P := fun (u1 : Int32) h => V K 5 h 64 [] [.int u1]) hd KJ)
  · have hd := ite_f q hd
    refine v_aload_n X dX1_bites_5 0 0 rfl rfl ?_
    refine v_iload_n X dX1_bites_6 1 1 rfl rfl ?_
    refine v_callV X hd hle (ct_X1_isDoor _ t p1) gCl_X1 (lw_V q1115 q1117 qs12 q109 q1118) ⟨rfl, dn_X1_isDoor⟩ rfl ⟨by decide, by decide⟩ rfl (Nat.le_of_ble_eq_true rfl) dX1_bites_7 (fun v2 h hd => ?_)
    show V K 5 h 10 [(0, .ref t), (1, .int p1), (2, .int p2), (3, .int p3), (4, .int p4)] [.int (b2i v2)]
    refine v_ifZ_eq (tgt := 63) X dX1_bites_10 (by decide) (fun q => ?_) (fun q => ?_)
    · have hd := cnd_f q hd
      refine v_iconst (v := (-1)) X dX1_bites_63 (by decide) ?_
      exact v_loc [] rfl (v_at (P := fun (u1 : Int32) h => V K 5 h 64 [] [.int u1]) hd KJ)
    · have hd := cnd_t q hd
      refine v_aload_n X dX1_bites_13 0 0 rfl rfl ?_
      refine v_iload_n X dX1_bites_14 3 3 rfl rfl ?_
      refine v_callV X hd hle (ct_X1_isDoor _ t p3) gCl_X1 (lw_V q1115 q1117 qs12 q109 q1118) ⟨rfl, dn_X1_isDoor⟩ rfl ⟨by decide, by decide⟩ rfl (Nat.le_of_ble_eq_true rfl) dX1_bites_15 (fun v3 h hd => ?_)
      show V K 5 h 18 [(0, .ref t), (1, .int p1), (2, .int p2), (3, .int p3), (4, .int p4)] [.int (b2i v3)]
      refine v_ifZ_eq (tgt := 63) X dX1_bites_18 (by decide) (fun q => ?_) (fun q => ?_)
      · have hd := cnd_f q hd
        refine v_iconst (v := (-1)) X dX1_bites_63 (by decide) ?_
        exact v_loc [] rfl (v_at (P := fun (u1 : Int32) h => V K 5 h 64 [] [.int u1]) hd KJ)
      · have hd := cnd_t q hd
        refine v_iload_n X dX1_bites_21 2 2 rfl rfl ?_
        refine v_callS X hd hle (ct_X1_isHanging _ p2) (lw_S q1120 q1121 q109 q1122) dn_X1_isHanging rfl ⟨by decide, by decide⟩ rfl (Nat.le_of_ble_eq_true rfl) dX1_bites_22 (fun v4 h hd => ?_)
        show V K 5 h 25 [(0, .ref t), (1, .int p1), (2, .int p2), (3, .int p3), (4, .int p4)] [.int (b2i v4)]
        refine v_ifZ_eq (tgt := 63) X dX1_bites_25 (by decide) (fun q => ?_) (fun q => ?_)
        · have hd := cnd_f q hd
          refine v_iconst (v := (-1)) X dX1_bites_63 (by decide) ?_
          exact v_loc [] rfl (v_at (P := fun (u1 : Int32) h => V K 5 h 64 [] [.int u1]) hd KJ)
        · have hd := cnd_t q hd
          refine v_iload X dX1_bites_28 4 rfl ?_
          refine v_callS X hd hle (ct_X1_isHanging _ p4) (lw_S q1120 q1121 q109 q1122) dn_X1_isHanging rfl ⟨by decide, by decide⟩ rfl (Nat.le_of_ble_eq_true rfl) dX1_bites_30 (fun v5 h hd => ?_)
          show V K 5 h 33 [(0, .ref t), (1, .int p1), (2, .int p2), (3, .int p3), (4, .int p4)] [.int (b2i v5)]
          refine v_ifZ_eq (tgt := 63) X dX1_bites_33 (by decide) (fun q => ?_) (fun q => ?_)
          · have hd := cnd_f q hd
            refine v_iconst (v := (-1)) X dX1_bites_63 (by decide) ?_
            exact v_loc [] rfl (v_at (P := fun (u1 : Int32) h => V K 5 h 64 [] [.int u1]) hd KJ)
          · have hd := cnd_t q hd
            refine v_aload_n X dX1_bites_36 0 0 rfl rfl ?_
            refine v_iload_n X dX1_bites_37 1 1 rfl rfl ?_
            refine v_callV X hd hle (ct_X1_at _ t p1) gCl_X1 (lw_V q1123 q1125 qs13 q109 q1126) ⟨rfl, dn_X1_at⟩ rfl ⟨by decide, by decide⟩ rfl (Nat.le_of_ble_eq_true rfl) dX1_bites_38 (fun v6 h hd => ?_)
            show V K 5 h 41 [(0, .ref t), (1, .int p1), (2, .int p2), (3, .int p3), (4, .int p4)] [.ref v6]
            refine v_getR X hd fl_X1_317 dX1_bites_41 (fun v7 hd => ?_)
            refine v_iload_n X dX1_bites_44 2 2 rfl rfl ?_
            refine v_aldR X hd 4 rfl (by decide) (by decide) dX1_bites_45 (fun v8 hd => ?_)
            refine v_aload_n X dX1_bites_46 0 0 rfl rfl ?_
            refine v_iload_n X dX1_bites_47 3 3 rfl rfl ?_
            refine v_callV X hd hle (ct_X1_at _ t p3) gCl_X1 (lw_V q1123 q1125 qs13 q109 q1126) ⟨rfl, dn_X1_at⟩ rfl ⟨by decide, by decide⟩ rfl (Nat.le_of_ble_eq_true rfl) dX1_bites_48 (fun v9 h hd => ?_)
            show V K 5 h 51 [(0, .ref t), (1, .int p1), (2, .int p2), (3, .int p3), (4, .int p4)] [.ref v9, .ref v8]
            refine v_getR X hd fl_X1_317 dX1_bites_51 (fun v10 hd => ?_)
            refine v_iload X dX1_bites_54 4 rfl ?_
            refine v_aldR X hd 4 rfl (by decide) (by decide) dX1_bites_56 (fun v11 hd => ?_)
            refine v_callV X hd hle (ct_X12_shared _ v8 v11) gCl_X12 (lw_V q1150 q997 q998 q126 q999) ⟨rfl, dn_X12_shared⟩ rfl ⟨by decide, by decide⟩ rfl (Nat.le_of_ble_eq_true rfl) dX1_bites_57 (fun v12 h hd => ?_)
            show V K 5 h 60 [(0, .ref t), (1, .int p1), (2, .int p2), (3, .int p3), (4, .int p4)] [.int v12]
            refine v_goto (tgt := 64) X dX1_bites_60 (by decide) ?_
            exact v_loc [] rfl (v_at (P := fun (u1 : Int32) h => V K 5 h 64 [] [.int u1]) hd KJ)
def dkwX22_is_3 : List UInt8 := [167, 0, 4, 3, 172]
abbrev dktX22_is_3 : List UInt8 := dkwX22_is_3 ++ []
def dkwX22_is_2 : List UInt8 := [182, 0, 34, 167, 0, 24, 43, 180, 0, 40, 2, 159, 0, 15, 43, 28, 182, 0, 43, 153, 0, 7, 4]
abbrev dktX22_is_2 : List UInt8 := dkwX22_is_2 ++ dktX22_is_3
def dkwX22_is_1 : List UInt8 := [42, 180, 0, 9, 4, 160, 0, 24, 43, 180, 0, 21, 180, 0, 25, 28, 50, 43, 180, 0, 31, 28, 46]
abbrev dktX22_is_1 : List UInt8 := dkwX22_is_1 ++ dktX22_is_2
def dkwX22_is_0 : List UInt8 := [42, 180, 0, 9, 154, 0, 20, 43, 180, 0, 15, 28, 46, 158, 0, 7, 4, 167, 0, 57, 3, 167, 0, 53]
abbrev dktX22_is_0 : List UInt8 := dkwX22_is_0 ++ dktX22_is_1
theorem dksX22_is_0 : cX22_is.data.toList.drop 0 = dktX22_is_0 := by decide +kernel
theorem dksX22_is_1 : cX22_is.data.toList.drop 24 = dktX22_is_1 := dk_seg dksX22_is_0 24 rfl rfl
theorem dksX22_is_2 : cX22_is.data.toList.drop 47 = dktX22_is_2 := dk_seg dksX22_is_1 23 rfl rfl
theorem dksX22_is_3 : cX22_is.data.toList.drop 70 = dktX22_is_3 := dk_seg dksX22_is_2 23 rfl rfl
theorem dX22_is_0 : decode cX22_is 0 = .ok (.aload_n 0, 1) := dk_42 (dk_at dksX22_is_0 0 rfl rfl)
theorem dX22_is_1 : decode cX22_is 1 = .ok (.getfield 9, 3) := dk_180 0 9 (dk_at dksX22_is_0 1 rfl rfl)
theorem dX22_is_4 : decode cX22_is 4 = .ok (.ifCond .ne 20, 3) := dk_154 0 20 (dk_at dksX22_is_0 4 rfl rfl)
theorem dX22_is_7 : decode cX22_is 7 = .ok (.aload_n 1, 1) := dk_43 (dk_at dksX22_is_0 7 rfl rfl)
theorem dX22_is_8 : decode cX22_is 8 = .ok (.getfield 15, 3) := dk_180 0 15 (dk_at dksX22_is_0 8 rfl rfl)
theorem dX22_is_11 : decode cX22_is 11 = .ok (.iload_n 2, 1) := dk_28 (dk_at dksX22_is_0 11 rfl rfl)
theorem dX22_is_12 : decode cX22_is 12 = .ok (.iaload, 1) := dk_46 (dk_at dksX22_is_0 12 rfl rfl)
theorem dX22_is_13 : decode cX22_is 13 = .ok (.ifCond .le 7, 3) := dk_158 0 7 (dk_at dksX22_is_0 13 rfl rfl)
theorem dX22_is_16 : decode cX22_is 16 = .ok (.iconst 1, 1) := dk_4 (dk_at dksX22_is_0 16 rfl rfl)
theorem dX22_is_17 : decode cX22_is 17 = .ok (.goto 57, 3) := dk_167 0 57 (dk_at dksX22_is_0 17 rfl rfl)
theorem dX22_is_20 : decode cX22_is 20 = .ok (.iconst 0, 1) := dk_3 (dk_at dksX22_is_0 20 rfl rfl)
theorem dX22_is_21 : decode cX22_is 21 = .ok (.goto 53, 3) := dk_167 0 53 (dk_at dksX22_is_0 21 rfl rfl)
theorem dX22_is_24 : decode cX22_is 24 = .ok (.aload_n 0, 1) := dk_42 (dk_at dksX22_is_1 0 rfl rfl)
theorem dX22_is_25 : decode cX22_is 25 = .ok (.getfield 9, 3) := dk_180 0 9 (dk_at dksX22_is_1 1 rfl rfl)
theorem dX22_is_28 : decode cX22_is 28 = .ok (.iconst 1, 1) := dk_4 (dk_at dksX22_is_1 4 rfl rfl)
theorem dX22_is_29 : decode cX22_is 29 = .ok (.if_icmp .ne 24, 3) := dk_160 0 24 (dk_at dksX22_is_1 5 rfl rfl)
theorem dX22_is_32 : decode cX22_is 32 = .ok (.aload_n 1, 1) := dk_43 (dk_at dksX22_is_1 8 rfl rfl)
theorem dX22_is_33 : decode cX22_is 33 = .ok (.getfield 21, 3) := dk_180 0 21 (dk_at dksX22_is_1 9 rfl rfl)
theorem dX22_is_36 : decode cX22_is 36 = .ok (.getfield 25, 3) := dk_180 0 25 (dk_at dksX22_is_1 12 rfl rfl)
theorem dX22_is_39 : decode cX22_is 39 = .ok (.iload_n 2, 1) := dk_28 (dk_at dksX22_is_1 15 rfl rfl)
theorem dX22_is_40 : decode cX22_is 40 = .ok (.aaload, 1) := dk_50 (dk_at dksX22_is_1 16 rfl rfl)
theorem dX22_is_41 : decode cX22_is 41 = .ok (.aload_n 1, 1) := dk_43 (dk_at dksX22_is_1 17 rfl rfl)
theorem dX22_is_42 : decode cX22_is 42 = .ok (.getfield 31, 3) := dk_180 0 31 (dk_at dksX22_is_1 18 rfl rfl)
theorem dX22_is_45 : decode cX22_is 45 = .ok (.iload_n 2, 1) := dk_28 (dk_at dksX22_is_1 21 rfl rfl)
theorem dX22_is_46 : decode cX22_is 46 = .ok (.iaload, 1) := dk_46 (dk_at dksX22_is_1 22 rfl rfl)
theorem dX22_is_47 : decode cX22_is 47 = .ok (.invokevirtual 34, 3) := dk_182 0 34 (dk_at dksX22_is_2 0 rfl rfl)
theorem dX22_is_50 : decode cX22_is 50 = .ok (.goto 24, 3) := dk_167 0 24 (dk_at dksX22_is_2 3 rfl rfl)
theorem dX22_is_53 : decode cX22_is 53 = .ok (.aload_n 1, 1) := dk_43 (dk_at dksX22_is_2 6 rfl rfl)
theorem dX22_is_54 : decode cX22_is 54 = .ok (.getfield 40, 3) := dk_180 0 40 (dk_at dksX22_is_2 7 rfl rfl)
theorem dX22_is_57 : decode cX22_is 57 = .ok (.iconst (-1), 1) := dk_2 (dk_at dksX22_is_2 10 rfl rfl)
theorem dX22_is_58 : decode cX22_is 58 = .ok (.if_icmp .eq 15, 3) := dk_159 0 15 (dk_at dksX22_is_2 11 rfl rfl)
theorem dX22_is_61 : decode cX22_is 61 = .ok (.aload_n 1, 1) := dk_43 (dk_at dksX22_is_2 14 rfl rfl)
theorem dX22_is_62 : decode cX22_is 62 = .ok (.iload_n 2, 1) := dk_28 (dk_at dksX22_is_2 15 rfl rfl)
theorem dX22_is_63 : decode cX22_is 63 = .ok (.invokevirtual 43, 3) := dk_182 0 43 (dk_at dksX22_is_2 16 rfl rfl)
theorem dX22_is_66 : decode cX22_is 66 = .ok (.ifCond .eq 7, 3) := dk_153 0 7 (dk_at dksX22_is_2 19 rfl rfl)
theorem dX22_is_69 : decode cX22_is 69 = .ok (.iconst 1, 1) := dk_4 (dk_at dksX22_is_2 22 rfl rfl)
theorem dX22_is_70 : decode cX22_is 70 = .ok (.goto 4, 3) := dk_167 0 4 (dk_at dksX22_is_3 0 rfl rfl)
theorem dX22_is_73 : decode cX22_is 73 = .ok (.iconst 0, 1) := dk_3 (dk_at dksX22_is_3 3 rfl rfl)
theorem dX22_is_74 : decode cX22_is 74 = .ok (.ireturn, 1) := dk_172 (dk_at dksX22_is_3 4 rfl rfl)
theorem fl_X22_15 : gFl "BitingDoors$Stands" 15 [2] 2 := by
  intro args s hts hN ci hc
  simp only [List.mem_cons, List.not_mem_nil, or_false] at hc
  subst hc
  exact ⟨RX3, TX3, 6, "BitingDoors$Walker", gCl_X3, in_X3, by decide, Or.inr ⟨"BitingDoors", va_Nw.use rfl (hN.1 ("BitingDoors$Stands", 15, "BitingDoors$Walker", "angle", "[I", "BitingDoors") (List.mem_of_getElem? (i := 75) rfl))⟩, fun _ h => h⟩
theorem fl_X22_21 : gFl "BitingDoors$Stands" 21 [2] 0 := by
  intro args s hts hN ci hc
  simp only [List.mem_cons, List.not_mem_nil, or_false] at hc
  subst hc
  exact ⟨RX3, TX3, 6, "BitingDoors$Walker", gCl_X3, in_X3, by decide, Or.inr ⟨"BitingDoors", va_Nw.use rfl (hN.1 ("BitingDoors$Stands", 21, "BitingDoors$Walker", "house", "LBitingDoors$House;", "BitingDoors") (List.mem_of_getElem? (i := 73) rfl))⟩, fun _ h => h⟩
theorem fl_X22_25 : gFl "BitingDoors$Stands" 25 [3] 2 := by
  intro args s hts hN ci hc
  simp only [List.mem_cons, List.not_mem_nil, or_false] at hc
  subst hc
  exact ⟨RX4, TX4, 9, "BitingDoors$House", gCl_X4, in_X4, by decide, Or.inr ⟨"BitingDoors", va_Nw.use rfl (hN.1 ("BitingDoors$Stands", 25, "BitingDoors$House", "doors", "[LBitingDoors$Door;", "BitingDoors") (List.mem_of_getElem? (i := 72) rfl))⟩, fun _ h => h⟩
theorem fl_X22_31 : gFl "BitingDoors$Stands" 31 [2] 1 := by
  intro args s hts hN ci hc
  simp only [List.mem_cons, List.not_mem_nil, or_false] at hc
  subst hc
  exact ⟨RX3, TX3, 6, "BitingDoors$Walker", gCl_X3, in_X3, by decide, Or.inr ⟨"BitingDoors", va_Nw.use rfl (hN.1 ("BitingDoors$Stands", 31, "BitingDoors$Walker", "hanging", "[I", "BitingDoors") (List.mem_of_getElem? (i := 74) rfl))⟩, fun _ h => h⟩
theorem fl_X22_40 : gFl "BitingDoors$Stands" 40 [2] 3 := by
  intro args s hts hN ci hc
  simp only [List.mem_cons, List.not_mem_nil, or_false] at hc
  subst hc
  exact ⟨RX3, TX3, 6, "BitingDoors$Walker", gCl_X3, in_X3, by decide, Or.inr ⟨"BitingDoors", va_Nw.use rfl (hN.1 ("BitingDoors$Stands", 40, "BitingDoors$Walker", "place", "I", "BitingDoors") (List.mem_of_getElem? (i := 76) rfl))⟩, fun _ h => h⟩
theorem fl_X22_9 : gFl "BitingDoors$Stands" 9 [17] 0 := by
  intro args s hts hN ci hc
  simp only [List.mem_cons, List.not_mem_nil, or_false] at hc
  subst hc
  exact ⟨RX22, TX22, 1, "BitingDoors$Stands", gCl_X22, in_X22, by decide, Or.inl (hts _ q1508), fun _ h => h⟩
theorem dn_X22_is : yX22_is.cls ≠ "java/lang/invoke/MethodHandle" ∧ yX22_is.cls ≠ "java/lang/invoke/VarHandle" ∧ (parseMethodDescriptor yX22_is.desc).map (fun d => d.parameters.length) = some 2 := by decide +kernel
noncomputable def M_X22_is (t : Nat) (p1 : Nat) (p2 : Int32) : Mo Bool := Mo.bind (chk [17] t) (fun _ => Mo.bind (gI [17] t 0) (fun v1 => Mo.bind ((if v1 = 0 then Mo.bind (gR [2] p1 2) (fun v12 => Mo.bind (aldI 0 v12 p2) (fun v13 => if v13 ≤ 0 then Mo.pure false else Mo.pure true)) else Mo.bind (gI [17] t 0) (fun v3 => if v3 = 1 then Mo.bind (gR [2] p1 0) (fun v6 => Mo.bind (gR [3] v6 2) (fun v7 => Mo.bind (aldR 5 v7 p2) (fun v8 => Mo.bind (gR [2] p1 1) (fun v9 => Mo.bind (aldI 0 v9 p2) (fun v10 => Mo.bind (M_X11_isFit v8 v10) (fun v11 => Mo.pure v11)))))) else Mo.bind (gI [2] p1 3) (fun v4 => if v4 = (-1) then Mo.pure false else Mo.bind (M_X3_isAt p1 p2) (fun v5 => cond v5 (Mo.pure true) (Mo.pure false)))) : Mo (Bool))) (fun u2 => Mo.pure u2)))
set_option maxHeartbeats 4000000 in
theorem ct_X22_is (G : gG) (t : Nat) (p1 : Nat) (p2 : Int32) : gCt G yX22_is cX22_is 3 (some .boolean) 3 68 [.ref t, .ref p1, .int p2] (M_X22_is t p1 p2) (fun x : Bool => some (.int (b2i x))) := by
  refine gCt.of (by decide) (Nat.le_of_ble_eq_true rfl) (fun K r hG X hd ho => ?_)
  subst hG
  have X : gX K cX22_is 3 "BitingDoors$Stands" "is" (some .boolean) 3 68 := X
  have hle : gLe (kh1 K) (kh1 K) := gLe.rf
  show V K 3 (kh0 K) 0 [(0, .ref t), (1, .ref p1), (2, .int p2)] []
  generalize kh0 K = h at hd ⊢
  unfold M_X22_is at hd
  obtain ⟨-, hd⟩ := chk_some hd
  refine v_aload_n X dX22_is_0 0 0 rfl rfl ?_
  refine v_getI X hd fl_X22_9 dX22_is_1 (fun v1 hd => ?_)
  obtain ⟨u2, h1, hd, hd2⟩ := Mo.bind_some hd
  have KJ : V K 3 h1 74 [] [.int (b2i u2)] := by
    clear hd
    have hd := hd2
    exact v_zret X hd rfl ho dX22_is_74
  have hle := (Mo.le hd2).tr hle
  clear hd2
  refine v_if_ne (tgt := 24) X dX22_is_4 (by decide) (fun q => ?_) (fun q => ?_)
  · have hd := ite_f q hd
    refine v_aload_n X dX22_is_24 0 0 rfl rfl ?_
    refine v_getI X hd fl_X22_9 dX22_is_25 (fun v3 hd => ?_)
    refine v_iconst (v := 1) X dX22_is_28 (by decide) ?_
    refine v_icmp_ne (tgt := 53) X dX22_is_29 (by decide) (fun q => ?_) (fun q => ?_)
    · have hd := ite_f q hd
      refine v_aload_n X dX22_is_53 1 1 rfl rfl ?_
      refine v_getI X hd fl_X22_40 dX22_is_54 (fun v4 hd => ?_)
      refine v_iconst (v := (-1)) X dX22_is_57 (by decide) ?_
      refine v_icmp_eq (tgt := 73) X dX22_is_58 (by decide) (fun q => ?_) (fun q => ?_)
      · have hd := ite_t q hd
        refine v_iconst (v := 0) X dX22_is_73 (by decide) ?_
        exact v_loc [] rfl (v_at (P := fun (u2 : Bool) h => V K 3 h 74 [] [.int (b2i u2)]) hd KJ)
      · have hd := ite_f q hd
        refine v_aload_n X dX22_is_61 1 1 rfl rfl ?_
        refine v_iload_n X dX22_is_62 2 2 rfl rfl ?_
        refine v_callV X hd hle (ct_X3_isAt _ p1 p2) gCl_X3 (lw_V q1592 q1313 q1314 q113 q1315) ⟨rfl, dn_X3_isAt⟩ rfl ⟨by decide, by decide⟩ rfl (Nat.le_of_ble_eq_true rfl) dX22_is_63 (fun v5 h hd => ?_)
        show V K 3 h 66 [(0, .ref t), (1, .ref p1), (2, .int p2)] [.int (b2i v5)]
        refine v_ifZ_eq (tgt := 73) X dX22_is_66 (by decide) (fun q => ?_) (fun q => ?_)
        · have hd := cnd_f q hd
          refine v_iconst (v := 0) X dX22_is_73 (by decide) ?_
          exact v_loc [] rfl (v_at (P := fun (u2 : Bool) h => V K 3 h 74 [] [.int (b2i u2)]) hd KJ)
        · have hd := cnd_t q hd
          refine v_iconst (v := 1) X dX22_is_69 (by decide) ?_
          refine v_goto (tgt := 74) X dX22_is_70 (by decide) ?_
          exact v_loc [] rfl (v_at (P := fun (u2 : Bool) h => V K 3 h 74 [] [.int (b2i u2)]) hd KJ)
    · have hd := ite_t q hd
      refine v_aload_n X dX22_is_32 1 1 rfl rfl ?_
      refine v_getR X hd fl_X22_21 dX22_is_33 (fun v6 hd => ?_)
      refine v_getR X hd fl_X22_25 dX22_is_36 (fun v7 hd => ?_)
      refine v_iload_n X dX22_is_39 2 2 rfl rfl ?_
      refine v_aldR X hd 5 rfl (by decide) (by decide) dX22_is_40 (fun v8 hd => ?_)
      refine v_aload_n X dX22_is_41 1 1 rfl rfl ?_
      refine v_getR X hd fl_X22_31 dX22_is_42 (fun v9 hd => ?_)
      refine v_iload_n X dX22_is_45 2 2 rfl rfl ?_
      refine v_iald X hd dX22_is_46 (fun v10 hd => ?_)
      refine v_callV X hd hle (ct_X11_isFit _ v8 v10) gCl_X11 (lw_V q1591 q1138 q1139 q125 q1140) ⟨rfl, dn_X11_isFit⟩ rfl ⟨by decide, by decide⟩ rfl (Nat.le_of_ble_eq_true rfl) dX22_is_47 (fun v11 h hd => ?_)
      show V K 3 h 50 [(0, .ref t), (1, .ref p1), (2, .int p2)] [.int (b2i v11)]
      refine v_goto (tgt := 74) X dX22_is_50 (by decide) ?_
      exact v_loc [] rfl (v_at (P := fun (u2 : Bool) h => V K 3 h 74 [] [.int (b2i u2)]) hd KJ)
  · have hd := ite_t q hd
    refine v_aload_n X dX22_is_7 1 1 rfl rfl ?_
    refine v_getR X hd fl_X22_15 dX22_is_8 (fun v12 hd => ?_)
    refine v_iload_n X dX22_is_11 2 2 rfl rfl ?_
    refine v_iald X hd dX22_is_12 (fun v13 hd => ?_)
    refine v_if_le (tgt := 20) X dX22_is_13 (by decide) (fun q => ?_) (fun q => ?_)
    · have hd := ite_t q hd
      refine v_iconst (v := 0) X dX22_is_20 (by decide) ?_
      refine v_goto (tgt := 74) X dX22_is_21 (by decide) ?_
      exact v_loc [] rfl (v_at (P := fun (u2 : Bool) h => V K 3 h 74 [] [.int (b2i u2)]) hd KJ)
    · have hd := ite_f q hd
      refine v_iconst (v := 1) X dX22_is_16 (by decide) ?_
      refine v_goto (tgt := 74) X dX22_is_17 (by decide) ?_
      exact v_loc [] rfl (v_at (P := fun (u2 : Bool) h => V K 3 h 74 [] [.int (b2i u2)]) hd KJ)
def dkwX1_cheapest_0 : List UInt8 := [42, 182, 1, 105, 153, 0, 10, 42, 180, 1, 83, 167, 0, 4, 2, 172]
abbrev dktX1_cheapest_0 : List UInt8 := dkwX1_cheapest_0 ++ []
theorem dksX1_cheapest_0 : cX1_cheapest.data.toList.drop 0 = dktX1_cheapest_0 := by decide +kernel
theorem dX1_cheapest_0 : decode cX1_cheapest 0 = .ok (.aload_n 0, 1) := dk_42 (dk_at dksX1_cheapest_0 0 rfl rfl)
theorem dX1_cheapest_1 : decode cX1_cheapest 1 = .ok (.invokevirtual 361, 3) := dk_182 1 105 (dk_at dksX1_cheapest_0 1 rfl rfl)
theorem dX1_cheapest_4 : decode cX1_cheapest 4 = .ok (.ifCond .eq 10, 3) := dk_153 0 10 (dk_at dksX1_cheapest_0 4 rfl rfl)
theorem dX1_cheapest_7 : decode cX1_cheapest 7 = .ok (.aload_n 0, 1) := dk_42 (dk_at dksX1_cheapest_0 7 rfl rfl)
theorem dX1_cheapest_8 : decode cX1_cheapest 8 = .ok (.getfield 339, 3) := dk_180 1 83 (dk_at dksX1_cheapest_0 8 rfl rfl)
theorem dX1_cheapest_11 : decode cX1_cheapest 11 = .ok (.goto 4, 3) := dk_167 0 4 (dk_at dksX1_cheapest_0 11 rfl rfl)
theorem dX1_cheapest_14 : decode cX1_cheapest 14 = .ok (.iconst (-1), 1) := dk_2 (dk_at dksX1_cheapest_0 14 rfl rfl)
theorem dX1_cheapest_15 : decode cX1_cheapest 15 = .ok (.ireturn, 1) := dk_172 (dk_at dksX1_cheapest_0 15 rfl rfl)
theorem dn_X1_cheapest : yX1_cheapest.cls ≠ "java/lang/invoke/MethodHandle" ∧ yX1_cheapest.cls ≠ "java/lang/invoke/VarHandle" ∧ (parseMethodDescriptor yX1_cheapest.desc).map (fun d => d.parameters.length) = some 0 := by decide +kernel
noncomputable def M_X1_cheapest (t : Nat) : Mo Int32 := Mo.bind (chk [0] t) (fun _ => Mo.bind (M_X1_findCheapest t) (fun v1 => Mo.bind ((cond v1 (Mo.bind (gI [0] t 18) (fun v3 => Mo.pure v3)) (Mo.pure (-1)) : Mo (Int32))) (fun u2 => Mo.pure u2)))
set_option maxHeartbeats 4000000 in
theorem ct_X1_cheapest (G : gG) (t : Nat) : gCt G yX1_cheapest cX1_cheapest 1 (some .int) 16 405 [.ref t] (M_X1_cheapest t) (fun x : Int32 => some (.int x)) := by
  refine gCt.of (by decide) (Nat.le_of_ble_eq_true rfl) (fun K r hG X hd ho => ?_)
  subst hG
  have X : gX K cX1_cheapest 1 "BitingDoors" "cheapest" (some .int) 16 405 := X
  have hle : gLe (kh1 K) (kh1 K) := gLe.rf
  show V K 1 (kh0 K) 0 [(0, .ref t)] []
  generalize kh0 K = h at hd ⊢
  unfold M_X1_cheapest at hd
  obtain ⟨-, hd⟩ := chk_some hd
  refine v_aload_n X dX1_cheapest_0 0 0 rfl rfl ?_
  refine v_callV X hd hle (ct_X1_findCheapest _ t) gCl_X1 (lw_V q1168 q1170 qs15 q109 q1171) ⟨rfl, dn_X1_findCheapest⟩ rfl ⟨by decide, by decide⟩ rfl (Nat.le_of_ble_eq_true rfl) dX1_cheapest_1 (fun v1 h hd => ?_)
  show V K 1 h 4 [(0, .ref t)] [.int (b2i v1)]
  obtain ⟨u2, h1, hd, hd2⟩ := Mo.bind_some hd
  have KJ : V K 1 h1 15 [] [.int u2] := by
    clear hd
    have hd := hd2
    exact v_iret X hd ho dX1_cheapest_15
  have hle := (Mo.le hd2).tr hle
  clear hd2
  refine v_ifZ_eq (tgt := 14) X dX1_cheapest_4 (by decide) (fun q => ?_) (fun q => ?_)
  · have hd := cnd_f q hd
    refine v_iconst (v := (-1)) X dX1_cheapest_14 (by decide) ?_
    exact v_loc [] rfl (v_at (P := fun (u2 : Int32) h => V K 1 h 15 [] [.int u2]) hd KJ)
  · have hd := cnd_t q hd
    refine v_aload_n X dX1_cheapest_7 0 0 rfl rfl ?_
    refine v_getI X hd fl_X1_339 dX1_cheapest_8 (fun v3 hd => ?_)
    refine v_goto (tgt := 15) X dX1_cheapest_11 (by decide) ?_
    exact v_loc [] rfl (v_at (P := fun (u2 : Int32) h => V K 1 h 15 [] [.int u2]) hd KJ)
def dkwX1_minutes_0 : List UInt8 := [42, 180, 0, 90, 180, 0, 224, 172]
abbrev dktX1_minutes_0 : List UInt8 := dkwX1_minutes_0 ++ []
theorem dksX1_minutes_0 : cX1_minutes.data.toList.drop 0 = dktX1_minutes_0 := by decide +kernel
theorem dX1_minutes_0 : decode cX1_minutes 0 = .ok (.aload_n 0, 1) := dk_42 (dk_at dksX1_minutes_0 0 rfl rfl)
theorem dX1_minutes_1 : decode cX1_minutes 1 = .ok (.getfield 90, 3) := dk_180 0 90 (dk_at dksX1_minutes_0 1 rfl rfl)
theorem dX1_minutes_4 : decode cX1_minutes 4 = .ok (.getfield 224, 3) := dk_180 0 224 (dk_at dksX1_minutes_0 4 rfl rfl)
theorem dX1_minutes_7 : decode cX1_minutes 7 = .ok (.ireturn, 1) := dk_172 (dk_at dksX1_minutes_0 7 rfl rfl)
theorem fl_X1_224 : gFl "BitingDoors" 224 [2] 4 := by
  intro args s hts hN ci hc
  simp only [List.mem_cons, List.not_mem_nil, or_false] at hc
  subst hc
  exact ⟨RX3, TX3, 6, "BitingDoors$Walker", gCl_X3, in_X3, by decide, Or.inr ⟨"BitingDoors", va_Nw.use rfl (hN.1 ("BitingDoors", 224, "BitingDoors$Walker", "minutes", "I", "BitingDoors") (List.mem_of_getElem? (i := 11) rfl))⟩, fun _ h => h⟩
theorem dn_X1_minutes : yX1_minutes.cls ≠ "java/lang/invoke/MethodHandle" ∧ yX1_minutes.cls ≠ "java/lang/invoke/VarHandle" ∧ (parseMethodDescriptor yX1_minutes.desc).map (fun d => d.parameters.length) = some 0 := by decide +kernel
noncomputable def M_X1_minutes (t : Nat) : Mo Int32 := Mo.bind (chk [0] t) (fun _ => Mo.bind (gR [0] t 9) (fun v1 => Mo.bind (gI [2] v1 4) (fun v2 => Mo.pure v2)))
set_option maxHeartbeats 4000000 in
theorem ct_X1_minutes (G : gG) (t : Nat) : gCt G yX1_minutes cX1_minutes 1 (some .int) 0 0 [.ref t] (M_X1_minutes t) (fun x : Int32 => some (.int x)) := by
  refine gCt.of (by decide) (Nat.le_of_ble_eq_true rfl) (fun K r hG X hd ho => ?_)
  subst hG
  have X : gX K cX1_minutes 1 "BitingDoors" "minutes" (some .int) 0 0 := X
  have hle : gLe (kh1 K) (kh1 K) := gLe.rf
  show V K 1 (kh0 K) 0 [(0, .ref t)] []
  generalize kh0 K = h at hd ⊢
  unfold M_X1_minutes at hd
  obtain ⟨-, hd⟩ := chk_some hd
  refine v_aload_n X dX1_minutes_0 0 0 rfl rfl ?_
  refine v_getR X hd fl_X1_90 dX1_minutes_1 (fun v1 hd => ?_)
  refine v_getI X hd fl_X1_224 dX1_minutes_4 (fun v2 hd => ?_)
  exact v_iret X hd ho dX1_minutes_7
def dkwX11_put_2 : List UInt8 := [177]
abbrev dktX11_put_2 : List UInt8 := dkwX11_put_2 ++ []
def dkwX11_put_1 : List UInt8 := [180, 0, 38, 153, 0, 12, 42, 180, 0, 35, 28, 96, 167, 0, 9, 42, 180, 0, 35, 29, 96, 182, 0, 89]
abbrev dktX11_put_1 : List UInt8 := dkwX11_put_1 ++ dktX11_put_2
def dkwX11_put_0 : List UInt8 := [43, 42, 180, 0, 38, 153, 0, 12, 42, 180, 0, 32, 29, 96, 167, 0, 9, 42, 180, 0, 32, 28, 96, 42]
abbrev dktX11_put_0 : List UInt8 := dkwX11_put_0 ++ dktX11_put_1
theorem dksX11_put_0 : cX11_put.data.toList.drop 0 = dktX11_put_0 := by decide +kernel
theorem dksX11_put_1 : cX11_put.data.toList.drop 24 = dktX11_put_1 := dk_seg dksX11_put_0 24 rfl rfl
theorem dksX11_put_2 : cX11_put.data.toList.drop 48 = dktX11_put_2 := dk_seg dksX11_put_1 24 rfl rfl
theorem dX11_put_0 : decode cX11_put 0 = .ok (.aload_n 1, 1) := dk_43 (dk_at dksX11_put_0 0 rfl rfl)
theorem dX11_put_1 : decode cX11_put 1 = .ok (.aload_n 0, 1) := dk_42 (dk_at dksX11_put_0 1 rfl rfl)
theorem dX11_put_2 : decode cX11_put 2 = .ok (.getfield 38, 3) := dk_180 0 38 (dk_at dksX11_put_0 2 rfl rfl)
theorem dX11_put_5 : decode cX11_put 5 = .ok (.ifCond .eq 12, 3) := dk_153 0 12 (dk_at dksX11_put_0 5 rfl rfl)
theorem dX11_put_8 : decode cX11_put 8 = .ok (.aload_n 0, 1) := dk_42 (dk_at dksX11_put_0 8 rfl rfl)
theorem dX11_put_9 : decode cX11_put 9 = .ok (.getfield 32, 3) := dk_180 0 32 (dk_at dksX11_put_0 9 rfl rfl)
theorem dX11_put_12 : decode cX11_put 12 = .ok (.iload_n 3, 1) := dk_29 (dk_at dksX11_put_0 12 rfl rfl)
theorem dX11_put_13 : decode cX11_put 13 = .ok (.iadd, 1) := dk_96 (dk_at dksX11_put_0 13 rfl rfl)
theorem dX11_put_14 : decode cX11_put 14 = .ok (.goto 9, 3) := dk_167 0 9 (dk_at dksX11_put_0 14 rfl rfl)
theorem dX11_put_17 : decode cX11_put 17 = .ok (.aload_n 0, 1) := dk_42 (dk_at dksX11_put_0 17 rfl rfl)
theorem dX11_put_18 : decode cX11_put 18 = .ok (.getfield 32, 3) := dk_180 0 32 (dk_at dksX11_put_0 18 rfl rfl)
theorem dX11_put_21 : decode cX11_put 21 = .ok (.iload_n 2, 1) := dk_28 (dk_at dksX11_put_0 21 rfl rfl)
theorem dX11_put_22 : decode cX11_put 22 = .ok (.iadd, 1) := dk_96 (dk_at dksX11_put_0 22 rfl rfl)
theorem dX11_put_23 : decode cX11_put 23 = .ok (.aload_n 0, 1) := dk_42 (dk_at dksX11_put_0 23 rfl rfl)
theorem dX11_put_24 : decode cX11_put 24 = .ok (.getfield 38, 3) := dk_180 0 38 (dk_at dksX11_put_1 0 rfl rfl)
theorem dX11_put_27 : decode cX11_put 27 = .ok (.ifCond .eq 12, 3) := dk_153 0 12 (dk_at dksX11_put_1 3 rfl rfl)
theorem dX11_put_30 : decode cX11_put 30 = .ok (.aload_n 0, 1) := dk_42 (dk_at dksX11_put_1 6 rfl rfl)
theorem dX11_put_31 : decode cX11_put 31 = .ok (.getfield 35, 3) := dk_180 0 35 (dk_at dksX11_put_1 7 rfl rfl)
theorem dX11_put_34 : decode cX11_put 34 = .ok (.iload_n 2, 1) := dk_28 (dk_at dksX11_put_1 10 rfl rfl)
theorem dX11_put_35 : decode cX11_put 35 = .ok (.iadd, 1) := dk_96 (dk_at dksX11_put_1 11 rfl rfl)
theorem dX11_put_36 : decode cX11_put 36 = .ok (.goto 9, 3) := dk_167 0 9 (dk_at dksX11_put_1 12 rfl rfl)
theorem dX11_put_39 : decode cX11_put 39 = .ok (.aload_n 0, 1) := dk_42 (dk_at dksX11_put_1 15 rfl rfl)
theorem dX11_put_40 : decode cX11_put 40 = .ok (.getfield 35, 3) := dk_180 0 35 (dk_at dksX11_put_1 16 rfl rfl)
theorem dX11_put_43 : decode cX11_put 43 = .ok (.iload_n 3, 1) := dk_29 (dk_at dksX11_put_1 19 rfl rfl)
theorem dX11_put_44 : decode cX11_put 44 = .ok (.iadd, 1) := dk_96 (dk_at dksX11_put_1 20 rfl rfl)
theorem dX11_put_45 : decode cX11_put 45 = .ok (.invokevirtual 89, 3) := dk_182 0 89 (dk_at dksX11_put_1 21 rfl rfl)
theorem dX11_put_48 : decode cX11_put 48 = .ok (.return_, 1) := dk_177 (dk_at dksX11_put_2 0 rfl rfl)
theorem fl_X11_32 : gFl "BitingDoors$Door" 32 [9] 1 := by
  intro args s hts hN ci hc
  simp only [List.mem_cons, List.not_mem_nil, or_false] at hc
  subst hc
  exact ⟨RX11, TX11, 12, "BitingDoors$Door", gCl_X11, in_X11, by decide, Or.inl (hts _ q841), fun _ h => h⟩
theorem fl_X11_35 : gFl "BitingDoors$Door" 35 [9] 2 := by
  intro args s hts hN ci hc
  simp only [List.mem_cons, List.not_mem_nil, or_false] at hc
  subst hc
  exact ⟨RX11, TX11, 12, "BitingDoors$Door", gCl_X11, in_X11, by decide, Or.inl (hts _ q843), fun _ h => h⟩
theorem fl_X11_38 : gFl "BitingDoors$Door" 38 [9] 4 := by
  intro args s hts hN ci hc
  simp only [List.mem_cons, List.not_mem_nil, or_false] at hc
  subst hc
  exact ⟨RX11, TX11, 12, "BitingDoors$Door", gCl_X11, in_X11, by decide, Or.inl (hts _ q848), fun _ h => h⟩
theorem dn_X11_put : yX11_put.cls ≠ "java/lang/invoke/MethodHandle" ∧ yX11_put.cls ≠ "java/lang/invoke/VarHandle" ∧ (parseMethodDescriptor yX11_put.desc).map (fun d => d.parameters.length) = some 3 := by decide +kernel
noncomputable def M_X11_put (t : Nat) (p1 : Nat) (p2 : Int32) (p3 : Int32) : Mo Unit := Mo.bind (chk [9] t) (fun _ => Mo.bind (gZ [9] t 4) (fun v1 => Mo.bind ((cond v1 (Mo.bind (gI [9] t 1) (fun v9 => Mo.pure (v9 + p3))) (Mo.bind (gI [9] t 1) (fun v8 => Mo.pure (v8 + p2))) : Mo (Int32))) (fun u2 => Mo.bind (gZ [9] t 4) (fun v3 => Mo.bind ((cond v3 (Mo.bind (gI [9] t 2) (fun v7 => Mo.pure (v7 + p2))) (Mo.bind (gI [9] t 2) (fun v6 => Mo.pure (v6 + p3))) : Mo (Int32))) (fun u4 => Mo.bind (M_X12_put p1 u2 u4) (fun v5 => Mo.pure ()))))))
set_option maxHeartbeats 4000000 in
theorem ct_X11_put (G : gG) (t : Nat) (p1 : Nat) (p2 : Int32) (p3 : Int32) : gCt G yX11_put cX11_put 4 none 2 44 [.ref t, .ref p1, .int p2, .int p3] (M_X11_put t p1 p2 p3) (fun _ : Unit => none) := by
  refine gCt.of (by decide) (Nat.le_of_ble_eq_true rfl) (fun K r hG X hd ho => ?_)
  subst hG
  have X : gX K cX11_put 4 "BitingDoors$Door" "put" none 2 44 := X
  have hle : gLe (kh1 K) (kh1 K) := gLe.rf
  show V K 4 (kh0 K) 0 [(0, .ref t), (1, .ref p1), (2, .int p2), (3, .int p3)] []
  generalize kh0 K = h at hd ⊢
  unfold M_X11_put at hd
  obtain ⟨-, hd⟩ := chk_some hd
  refine v_aload_n X dX11_put_0 1 1 rfl rfl ?_
  refine v_aload_n X dX11_put_1 0 0 rfl rfl ?_
  refine v_getZ X hd fl_X11_38 dX11_put_2 (fun v1 hd => ?_)
  obtain ⟨u2, h1, hd, hd2⟩ := Mo.bind_some hd
  have KJ : V K 4 h1 23 [(0, .ref t), (2, .int p2), (3, .int p3)] [.int u2, .ref p1] := by
    clear hd
    have hd := hd2
    refine v_aload_n X dX11_put_23 0 0 rfl rfl ?_
    refine v_getZ X hd fl_X11_38 dX11_put_24 (fun v3 hd => ?_)
    obtain ⟨u4, h1, hd, hd2⟩ := Mo.bind_some hd
    have KJ : V K 4 h1 45 [] [.int u4, .int u2, .ref p1] := by
      clear hd
      have hd := hd2
      refine v_callV X hd hle (ct_X12_put _ p1 u2 u4) gCl_X12 (lw_V q959 q960 q961 q126 q962) ⟨rfl, dn_X12_put⟩ rfl ⟨by decide, by decide⟩ rfl (Nat.le_of_ble_eq_true rfl) dX11_put_45 (fun v5 h hd => ?_)
      show V K 4 h 48 [] []
      exact v_vret X hd ho dX11_put_48
    have hle := (Mo.le hd2).tr hle
    clear hd2
    refine v_ifZ_eq (tgt := 39) X dX11_put_27 (by decide) (fun q => ?_) (fun q => ?_)
    · have hd := cnd_f q hd
      refine v_aload_n X dX11_put_39 0 0 rfl rfl ?_
      refine v_getI X hd fl_X11_35 dX11_put_40 (fun v6 hd => ?_)
      refine v_iload_n X dX11_put_43 2 3 rfl rfl ?_
      refine v_iadd X dX11_put_44 ?_
      exact v_loc [] rfl (v_at (P := fun (u4 : Int32) h => V K 4 h 45 [] [.int u4, .int u2, .ref p1]) hd KJ)
    · have hd := cnd_t q hd
      refine v_aload_n X dX11_put_30 0 0 rfl rfl ?_
      refine v_getI X hd fl_X11_35 dX11_put_31 (fun v7 hd => ?_)
      refine v_iload_n X dX11_put_34 1 2 rfl rfl ?_
      refine v_iadd X dX11_put_35 ?_
      refine v_goto (tgt := 45) X dX11_put_36 (by decide) ?_
      exact v_loc [] rfl (v_at (P := fun (u4 : Int32) h => V K 4 h 45 [] [.int u4, .int u2, .ref p1]) hd KJ)
  have hle := (Mo.le hd2).tr hle
  clear hd2
  refine v_ifZ_eq (tgt := 17) X dX11_put_5 (by decide) (fun q => ?_) (fun q => ?_)
  · have hd := cnd_f q hd
    refine v_aload_n X dX11_put_17 0 0 rfl rfl ?_
    refine v_getI X hd fl_X11_32 dX11_put_18 (fun v8 hd => ?_)
    refine v_iload_n X dX11_put_21 2 2 rfl rfl ?_
    refine v_iadd X dX11_put_22 ?_
    exact v_loc [0, 2, 3] rfl (v_at (P := fun (u2 : Int32) h => V K 4 h 23 [(0, .ref t), (2, .int p2), (3, .int p3)] [.int u2, .ref p1]) hd KJ)
  · have hd := cnd_t q hd
    refine v_aload_n X dX11_put_8 0 0 rfl rfl ?_
    refine v_getI X hd fl_X11_32 dX11_put_9 (fun v9 hd => ?_)
    refine v_iload_n X dX11_put_12 3 3 rfl rfl ?_
    refine v_iadd X dX11_put_13 ?_
    refine v_goto (tgt := 23) X dX11_put_14 (by decide) ?_
    exact v_loc [0, 2, 3] rfl (v_at (P := fun (u2 : Int32) h => V K 4 h 23 [(0, .ref t), (2, .int p2), (3, .int p3)] [.int u2, .ref p1]) hd KJ)
def dkwX1_forced_1 : List UInt8 := [172]
abbrev dktX1_forced_1 : List UInt8 := dkwX1_forced_1 ++ []
def dkwX1_forced_0 : List UInt8 := [27, 3, 42, 180, 1, 121, 4, 100, 184, 0, 248, 153, 0, 12, 42, 180, 0, 133, 27, 46, 167, 0, 4, 2]
abbrev dktX1_forced_0 : List UInt8 := dkwX1_forced_0 ++ dktX1_forced_1
theorem dksX1_forced_0 : cX1_forced.data.toList.drop 0 = dktX1_forced_0 := by decide +kernel
theorem dksX1_forced_1 : cX1_forced.data.toList.drop 24 = dktX1_forced_1 := dk_seg dksX1_forced_0 24 rfl rfl
theorem dX1_forced_0 : decode cX1_forced 0 = .ok (.iload_n 1, 1) := dk_27 (dk_at dksX1_forced_0 0 rfl rfl)
theorem dX1_forced_1 : decode cX1_forced 1 = .ok (.iconst 0, 1) := dk_3 (dk_at dksX1_forced_0 1 rfl rfl)
theorem dX1_forced_2 : decode cX1_forced 2 = .ok (.aload_n 0, 1) := dk_42 (dk_at dksX1_forced_0 2 rfl rfl)
theorem dX1_forced_3 : decode cX1_forced 3 = .ok (.getfield 377, 3) := dk_180 1 121 (dk_at dksX1_forced_0 3 rfl rfl)
theorem dX1_forced_6 : decode cX1_forced 6 = .ok (.iconst 1, 1) := dk_4 (dk_at dksX1_forced_0 6 rfl rfl)
theorem dX1_forced_7 : decode cX1_forced 7 = .ok (.isub, 1) := dk_100 (dk_at dksX1_forced_0 7 rfl rfl)
theorem dX1_forced_8 : decode cX1_forced 8 = .ok (.invokestatic 248, 3) := dk_184 0 248 (dk_at dksX1_forced_0 8 rfl rfl)
theorem dX1_forced_11 : decode cX1_forced 11 = .ok (.ifCond .eq 12, 3) := dk_153 0 12 (dk_at dksX1_forced_0 11 rfl rfl)
theorem dX1_forced_14 : decode cX1_forced 14 = .ok (.aload_n 0, 1) := dk_42 (dk_at dksX1_forced_0 14 rfl rfl)
theorem dX1_forced_15 : decode cX1_forced 15 = .ok (.getfield 133, 3) := dk_180 0 133 (dk_at dksX1_forced_0 15 rfl rfl)
theorem dX1_forced_18 : decode cX1_forced 18 = .ok (.iload_n 1, 1) := dk_27 (dk_at dksX1_forced_0 18 rfl rfl)
theorem dX1_forced_19 : decode cX1_forced 19 = .ok (.iaload, 1) := dk_46 (dk_at dksX1_forced_0 19 rfl rfl)
theorem dX1_forced_20 : decode cX1_forced 20 = .ok (.goto 4, 3) := dk_167 0 4 (dk_at dksX1_forced_0 20 rfl rfl)
theorem dX1_forced_23 : decode cX1_forced 23 = .ok (.iconst (-1), 1) := dk_2 (dk_at dksX1_forced_0 23 rfl rfl)
theorem dX1_forced_24 : decode cX1_forced 24 = .ok (.ireturn, 1) := dk_172 (dk_at dksX1_forced_1 0 rfl rfl)
theorem fl_X1_133 : gFl "BitingDoors" 133 [0] 22 := by
  intro args s hts hN ci hc
  simp only [List.mem_cons, List.not_mem_nil, or_false] at hc
  subst hc
  exact ⟨RX1, TX1, 46, "BitingDoors", gCl_X1, in_X1, by decide, Or.inl (hts _ q523), fun _ h => h⟩
theorem fl_X1_377 : gFl "BitingDoors" 377 [0] 24 := by
  intro args s hts hN ci hc
  simp only [List.mem_cons, List.not_mem_nil, or_false] at hc
  subst hc
  exact ⟨RX1, TX1, 46, "BitingDoors", gCl_X1, in_X1, by decide, Or.inl (hts _ q525), fun _ h => h⟩
theorem dn_X1_forced : yX1_forced.cls ≠ "java/lang/invoke/MethodHandle" ∧ yX1_forced.cls ≠ "java/lang/invoke/VarHandle" ∧ (parseMethodDescriptor yX1_forced.desc).map (fun d => d.parameters.length) = some 1 := by decide +kernel
noncomputable def M_X1_forced (t : Nat) (p1 : Int32) : Mo Int32 := Mo.bind (chk [0] t) (fun _ => Mo.bind (gI [0] t 24) (fun v1 => Mo.bind (M_X1_isIn p1 0 (v1 - 1)) (fun v2 => Mo.bind ((cond v2 (Mo.bind (gR [0] t 22) (fun v4 => Mo.bind (aldI 0 v4 p1) (fun v5 => Mo.pure v5))) (Mo.pure (-1)) : Mo (Int32))) (fun u3 => Mo.pure u3))))
set_option maxHeartbeats 4000000 in
theorem ct_X1_forced (G : gG) (t : Nat) (p1 : Int32) : gCt G yX1_forced cX1_forced 2 (some .int) 1 22 [.ref t, .int p1] (M_X1_forced t p1) (fun x : Int32 => some (.int x)) := by
  refine gCt.of (by decide) (Nat.le_of_ble_eq_true rfl) (fun K r hG X hd ho => ?_)
  subst hG
  have X : gX K cX1_forced 2 "BitingDoors" "forced" (some .int) 1 22 := X
  have hle : gLe (kh1 K) (kh1 K) := gLe.rf
  show V K 2 (kh0 K) 0 [(0, .ref t), (1, .int p1)] []
  generalize kh0 K = h at hd ⊢
  unfold M_X1_forced at hd
  obtain ⟨-, hd⟩ := chk_some hd
  refine v_iload_n X dX1_forced_0 1 1 rfl rfl ?_
  refine v_iconst (v := 0) X dX1_forced_1 (by decide) ?_
  refine v_aload_n X dX1_forced_2 0 0 rfl rfl ?_
  refine v_getI X hd fl_X1_377 dX1_forced_3 (fun v1 hd => ?_)
  refine v_iconst (v := 1) X dX1_forced_6 (by decide) ?_
  refine v_isub X dX1_forced_7 ?_
  refine v_callS X hd hle (ct_X1_isIn _ p1 0 (v1 - 1)) (lw_S q1119 q688 q109 q689) dn_X1_isIn rfl ⟨by decide, by decide⟩ rfl (Nat.le_of_ble_eq_true rfl) dX1_forced_8 (fun v2 h hd => ?_)
  show V K 2 h 11 [(0, .ref t), (1, .int p1)] [.int (b2i v2)]
  obtain ⟨u3, h1, hd, hd2⟩ := Mo.bind_some hd
  have KJ : V K 2 h1 24 [] [.int u3] := by
    clear hd
    have hd := hd2
    exact v_iret X hd ho dX1_forced_24
  have hle := (Mo.le hd2).tr hle
  clear hd2
  refine v_ifZ_eq (tgt := 23) X dX1_forced_11 (by decide) (fun q => ?_) (fun q => ?_)
  · have hd := cnd_f q hd
    refine v_iconst (v := (-1)) X dX1_forced_23 (by decide) ?_
    exact v_loc [] rfl (v_at (P := fun (u3 : Int32) h => V K 2 h 24 [] [.int u3]) hd KJ)
  · have hd := cnd_t q hd
    refine v_aload_n X dX1_forced_14 0 0 rfl rfl ?_
    refine v_getR X hd fl_X1_133 dX1_forced_15 (fun v4 hd => ?_)
    refine v_iload_n X dX1_forced_18 1 1 rfl rfl ?_
    refine v_iald X hd dX1_forced_19 (fun v5 hd => ?_)
    refine v_goto (tgt := 24) X dX1_forced_20 (by decide) ?_
    exact v_loc [] rfl (v_at (P := fun (u3 : Int32) h => V K 2 h 24 [] [.int u3]) hd KJ)
def dkwJ10_bitCount_2 : List UInt8 := [26, 16, 63, 126, 172]
abbrev dktJ10_bitCount_2 : List UInt8 := dkwJ10_bitCount_2 ++ []
def dkwJ10_bitCount_1 : List UInt8 := [26, 26, 7, 124, 96, 19, 1, 11, 126, 59, 26, 26, 16, 8, 124, 96, 59, 26, 26, 16, 16, 124, 96, 59]
abbrev dktJ10_bitCount_1 : List UInt8 := dkwJ10_bitCount_1 ++ dktJ10_bitCount_2
def dkwJ10_bitCount_0 : List UInt8 := [26, 26, 4, 124, 19, 1, 9, 126, 100, 59, 26, 19, 1, 10, 126, 26, 5, 124, 19, 1, 10, 126, 96, 59]
abbrev dktJ10_bitCount_0 : List UInt8 := dkwJ10_bitCount_0 ++ dktJ10_bitCount_1
theorem dksJ10_bitCount_0 : cJ10_bitCount.data.toList.drop 0 = dktJ10_bitCount_0 := by decide +kernel
theorem dksJ10_bitCount_1 : cJ10_bitCount.data.toList.drop 24 = dktJ10_bitCount_1 := dk_seg dksJ10_bitCount_0 24 rfl rfl
theorem dksJ10_bitCount_2 : cJ10_bitCount.data.toList.drop 48 = dktJ10_bitCount_2 := dk_seg dksJ10_bitCount_1 24 rfl rfl
theorem dJ10_bitCount_0 : decode cJ10_bitCount 0 = .ok (.iload_n 0, 1) := dk_26 (dk_at dksJ10_bitCount_0 0 rfl rfl)
theorem dJ10_bitCount_1 : decode cJ10_bitCount 1 = .ok (.iload_n 0, 1) := dk_26 (dk_at dksJ10_bitCount_0 1 rfl rfl)
theorem dJ10_bitCount_2 : decode cJ10_bitCount 2 = .ok (.iconst 1, 1) := dk_4 (dk_at dksJ10_bitCount_0 2 rfl rfl)
theorem dJ10_bitCount_3 : decode cJ10_bitCount 3 = .ok (.iushr, 1) := dk_124 (dk_at dksJ10_bitCount_0 3 rfl rfl)
theorem dJ10_bitCount_4 : decode cJ10_bitCount 4 = .ok (.ldc_w 265, 3) := dk_19 1 9 (dk_at dksJ10_bitCount_0 4 rfl rfl)
theorem dJ10_bitCount_7 : decode cJ10_bitCount 7 = .ok (.iand, 1) := dk_126 (dk_at dksJ10_bitCount_0 7 rfl rfl)
theorem dJ10_bitCount_8 : decode cJ10_bitCount 8 = .ok (.isub, 1) := dk_100 (dk_at dksJ10_bitCount_0 8 rfl rfl)
theorem dJ10_bitCount_9 : decode cJ10_bitCount 9 = .ok (.istore_n 0, 1) := dk_59 (dk_at dksJ10_bitCount_0 9 rfl rfl)
theorem dJ10_bitCount_10 : decode cJ10_bitCount 10 = .ok (.iload_n 0, 1) := dk_26 (dk_at dksJ10_bitCount_0 10 rfl rfl)
theorem dJ10_bitCount_11 : decode cJ10_bitCount 11 = .ok (.ldc_w 266, 3) := dk_19 1 10 (dk_at dksJ10_bitCount_0 11 rfl rfl)
theorem dJ10_bitCount_14 : decode cJ10_bitCount 14 = .ok (.iand, 1) := dk_126 (dk_at dksJ10_bitCount_0 14 rfl rfl)
theorem dJ10_bitCount_15 : decode cJ10_bitCount 15 = .ok (.iload_n 0, 1) := dk_26 (dk_at dksJ10_bitCount_0 15 rfl rfl)
theorem dJ10_bitCount_16 : decode cJ10_bitCount 16 = .ok (.iconst 2, 1) := dk_5 (dk_at dksJ10_bitCount_0 16 rfl rfl)
theorem dJ10_bitCount_17 : decode cJ10_bitCount 17 = .ok (.iushr, 1) := dk_124 (dk_at dksJ10_bitCount_0 17 rfl rfl)
theorem dJ10_bitCount_18 : decode cJ10_bitCount 18 = .ok (.ldc_w 266, 3) := dk_19 1 10 (dk_at dksJ10_bitCount_0 18 rfl rfl)
theorem dJ10_bitCount_21 : decode cJ10_bitCount 21 = .ok (.iand, 1) := dk_126 (dk_at dksJ10_bitCount_0 21 rfl rfl)
theorem dJ10_bitCount_22 : decode cJ10_bitCount 22 = .ok (.iadd, 1) := dk_96 (dk_at dksJ10_bitCount_0 22 rfl rfl)
theorem dJ10_bitCount_23 : decode cJ10_bitCount 23 = .ok (.istore_n 0, 1) := dk_59 (dk_at dksJ10_bitCount_0 23 rfl rfl)
theorem dJ10_bitCount_24 : decode cJ10_bitCount 24 = .ok (.iload_n 0, 1) := dk_26 (dk_at dksJ10_bitCount_1 0 rfl rfl)
theorem dJ10_bitCount_25 : decode cJ10_bitCount 25 = .ok (.iload_n 0, 1) := dk_26 (dk_at dksJ10_bitCount_1 1 rfl rfl)
theorem dJ10_bitCount_26 : decode cJ10_bitCount 26 = .ok (.iconst 4, 1) := dk_7 (dk_at dksJ10_bitCount_1 2 rfl rfl)
theorem dJ10_bitCount_27 : decode cJ10_bitCount 27 = .ok (.iushr, 1) := dk_124 (dk_at dksJ10_bitCount_1 3 rfl rfl)
theorem dJ10_bitCount_28 : decode cJ10_bitCount 28 = .ok (.iadd, 1) := dk_96 (dk_at dksJ10_bitCount_1 4 rfl rfl)
theorem dJ10_bitCount_29 : decode cJ10_bitCount 29 = .ok (.ldc_w 267, 3) := dk_19 1 11 (dk_at dksJ10_bitCount_1 5 rfl rfl)
theorem dJ10_bitCount_32 : decode cJ10_bitCount 32 = .ok (.iand, 1) := dk_126 (dk_at dksJ10_bitCount_1 8 rfl rfl)
theorem dJ10_bitCount_33 : decode cJ10_bitCount 33 = .ok (.istore_n 0, 1) := dk_59 (dk_at dksJ10_bitCount_1 9 rfl rfl)
theorem dJ10_bitCount_34 : decode cJ10_bitCount 34 = .ok (.iload_n 0, 1) := dk_26 (dk_at dksJ10_bitCount_1 10 rfl rfl)
theorem dJ10_bitCount_35 : decode cJ10_bitCount 35 = .ok (.iload_n 0, 1) := dk_26 (dk_at dksJ10_bitCount_1 11 rfl rfl)
theorem dJ10_bitCount_36 : decode cJ10_bitCount 36 = .ok (.bipush 8, 2) := dk_16 8 (dk_at dksJ10_bitCount_1 12 rfl rfl)
theorem dJ10_bitCount_38 : decode cJ10_bitCount 38 = .ok (.iushr, 1) := dk_124 (dk_at dksJ10_bitCount_1 14 rfl rfl)
theorem dJ10_bitCount_39 : decode cJ10_bitCount 39 = .ok (.iadd, 1) := dk_96 (dk_at dksJ10_bitCount_1 15 rfl rfl)
theorem dJ10_bitCount_40 : decode cJ10_bitCount 40 = .ok (.istore_n 0, 1) := dk_59 (dk_at dksJ10_bitCount_1 16 rfl rfl)
theorem dJ10_bitCount_41 : decode cJ10_bitCount 41 = .ok (.iload_n 0, 1) := dk_26 (dk_at dksJ10_bitCount_1 17 rfl rfl)
theorem dJ10_bitCount_42 : decode cJ10_bitCount 42 = .ok (.iload_n 0, 1) := dk_26 (dk_at dksJ10_bitCount_1 18 rfl rfl)
theorem dJ10_bitCount_43 : decode cJ10_bitCount 43 = .ok (.bipush 16, 2) := dk_16 16 (dk_at dksJ10_bitCount_1 19 rfl rfl)
theorem dJ10_bitCount_45 : decode cJ10_bitCount 45 = .ok (.iushr, 1) := dk_124 (dk_at dksJ10_bitCount_1 21 rfl rfl)
theorem dJ10_bitCount_46 : decode cJ10_bitCount 46 = .ok (.iadd, 1) := dk_96 (dk_at dksJ10_bitCount_1 22 rfl rfl)
theorem dJ10_bitCount_47 : decode cJ10_bitCount 47 = .ok (.istore_n 0, 1) := dk_59 (dk_at dksJ10_bitCount_1 23 rfl rfl)
theorem dJ10_bitCount_48 : decode cJ10_bitCount 48 = .ok (.iload_n 0, 1) := dk_26 (dk_at dksJ10_bitCount_2 0 rfl rfl)
theorem dJ10_bitCount_49 : decode cJ10_bitCount 49 = .ok (.bipush 63, 2) := dk_16 63 (dk_at dksJ10_bitCount_2 1 rfl rfl)
theorem dJ10_bitCount_51 : decode cJ10_bitCount 51 = .ok (.iand, 1) := dk_126 (dk_at dksJ10_bitCount_2 3 rfl rfl)
theorem dJ10_bitCount_52 : decode cJ10_bitCount 52 = .ok (.ireturn, 1) := dk_172 (dk_at dksJ10_bitCount_2 4 rfl rfl)
theorem dn_J10_bitCount : yJ10_bitCount.cls ≠ "java/lang/invoke/MethodHandle" ∧ yJ10_bitCount.cls ≠ "java/lang/invoke/VarHandle" ∧ (parseMethodDescriptor yJ10_bitCount.desc).map (fun d => d.parameters.length) = some 1 := by decide +kernel
noncomputable def M_J10_bitCount (p1 : Int32) : Mo Int32 := Mo.lv (p1 - (((p1.toUInt32 >>> ((1 : Int32).toUInt32 &&& Int32.toUInt32 31)).toInt32) &&& 1431655765)) (fun v1 => Mo.lv ((v1 &&& 858993459) + (((v1.toUInt32 >>> ((2 : Int32).toUInt32 &&& Int32.toUInt32 31)).toInt32) &&& 858993459)) (fun v2 => Mo.lv ((v2 + ((v2.toUInt32 >>> ((4 : Int32).toUInt32 &&& Int32.toUInt32 31)).toInt32)) &&& 252645135) (fun v3 => Mo.lv (v3 + ((v3.toUInt32 >>> ((8 : Int32).toUInt32 &&& Int32.toUInt32 31)).toInt32)) (fun v4 => Mo.lv (v4 + ((v4.toUInt32 >>> ((16 : Int32).toUInt32 &&& Int32.toUInt32 31)).toInt32)) (fun v5 => Mo.pure (v5 &&& 63))))))
set_option maxHeartbeats 4000000 in
theorem ct_J10_bitCount (G : gG) (p1 : Int32) : gCt G yJ10_bitCount cJ10_bitCount 1 (some .int) 0 0 [.int p1] (M_J10_bitCount p1) (fun x : Int32 => some (.int x)) := by
  refine gCt.of (by decide) (Nat.le_of_ble_eq_true rfl) (fun K r hG X hd ho => ?_)
  subst hG
  have X : gX K cJ10_bitCount 1 "java/lang/Integer" "bitCount" (some .int) 0 0 := X
  have hle : gLe (kh1 K) (kh1 K) := gLe.rf
  show V K 1 (kh0 K) 0 [(0, .int p1)] []
  generalize kh0 K = h at hd ⊢
  unfold M_J10_bitCount at hd
  refine v_iload_n X dJ10_bitCount_0 0 0 rfl rfl ?_
  refine v_iload_n X dJ10_bitCount_1 0 0 rfl rfl ?_
  refine v_iconst (v := 1) X dJ10_bitCount_2 (by decide) ?_
  refine v_iushr X dJ10_bitCount_3 ?_
  refine v_ldcw X q1233 dJ10_bitCount_4 ?_
  refine v_iand X dJ10_bitCount_7 ?_
  refine v_isub X dJ10_bitCount_8 ?_
  refine v_lvI hd (fun v1 hd => ?_)
  refine v_istore_n (lv2 := [(0, .int v1)]) X dJ10_bitCount_9 0 rfl (by decide) rfl ?_
  refine v_iload_n X dJ10_bitCount_10 0 0 rfl rfl ?_
  refine v_ldcw X q1234 dJ10_bitCount_11 ?_
  refine v_iand X dJ10_bitCount_14 ?_
  refine v_iload_n X dJ10_bitCount_15 0 0 rfl rfl ?_
  refine v_iconst (v := 2) X dJ10_bitCount_16 (by decide) ?_
  refine v_iushr X dJ10_bitCount_17 ?_
  refine v_ldcw X q1234 dJ10_bitCount_18 ?_
  refine v_iand X dJ10_bitCount_21 ?_
  refine v_iadd X dJ10_bitCount_22 ?_
  refine v_lvI hd (fun v2 hd => ?_)
  refine v_istore_n (lv2 := [(0, .int v2)]) X dJ10_bitCount_23 0 rfl (by decide) rfl ?_
  refine v_iload_n X dJ10_bitCount_24 0 0 rfl rfl ?_
  refine v_iload_n X dJ10_bitCount_25 0 0 rfl rfl ?_
  refine v_iconst (v := 4) X dJ10_bitCount_26 (by decide) ?_
  refine v_iushr X dJ10_bitCount_27 ?_
  refine v_iadd X dJ10_bitCount_28 ?_
  refine v_ldcw X q1235 dJ10_bitCount_29 ?_
  refine v_iand X dJ10_bitCount_32 ?_
  refine v_lvI hd (fun v3 hd => ?_)
  refine v_istore_n (lv2 := [(0, .int v3)]) X dJ10_bitCount_33 0 rfl (by decide) rfl ?_
  refine v_iload_n X dJ10_bitCount_34 0 0 rfl rfl ?_
  refine v_iload_n X dJ10_bitCount_35 0 0 rfl rfl ?_
  refine v_bipush (v := 8) X dJ10_bitCount_36 (by decide) ?_
  refine v_iushr X dJ10_bitCount_38 ?_
  refine v_iadd X dJ10_bitCount_39 ?_
  refine v_lvI hd (fun v4 hd => ?_)
  refine v_istore_n (lv2 := [(0, .int v4)]) X dJ10_bitCount_40 0 rfl (by decide) rfl ?_
  refine v_iload_n X dJ10_bitCount_41 0 0 rfl rfl ?_
  refine v_iload_n X dJ10_bitCount_42 0 0 rfl rfl ?_
  refine v_bipush (v := 16) X dJ10_bitCount_43 (by decide) ?_
  refine v_iushr X dJ10_bitCount_45 ?_
  refine v_iadd X dJ10_bitCount_46 ?_
  refine v_lvI hd (fun v5 hd => ?_)
  refine v_istore_n (lv2 := [(0, .int v5)]) X dJ10_bitCount_47 0 rfl (by decide) rfl ?_
  refine v_iload_n X dJ10_bitCount_48 0 0 rfl rfl ?_
  refine v_bipush (v := 63) X dJ10_bitCount_49 (by decide) ?_
  refine v_iand X dJ10_bitCount_51 ?_
  exact v_iret X hd ho dJ10_bitCount_52
def dkwX23_of_3 : List UInt8 := [180, 0, 47, 172, 43, 180, 0, 19, 28, 182, 0, 52, 184, 0, 56, 172, 45, 180, 0, 61, 172]
abbrev dktX23_of_3 : List UInt8 := dkwX23_of_3 ++ []
def dkwX23_of_2 : List UInt8 := [43, 180, 0, 31, 28, 46, 172, 45, 180, 0, 35, 172, 45, 180, 0, 40, 43, 180, 0, 44, 28, 46, 50]
abbrev dktX23_of_2 : List UInt8 := dkwX23_of_2 ++ dktX23_of_3
def dkwX23_of_1 : List UInt8 := [170, 0, 0, 0, 0, 69, 0, 0, 0, 0, 0, 0, 0, 3, 0, 0, 0, 30, 0, 0, 0, 37, 0, 0, 0, 42, 0, 0, 0, 57]
abbrev dktX23_of_1 : List UInt8 := dkwX23_of_1 ++ dktX23_of_2
def dkwX23_of_0 : List UInt8 := [43, 180, 0, 19, 180, 0, 25, 28, 50, 78, 42, 180, 0, 7]
abbrev dktX23_of_0 : List UInt8 := dkwX23_of_0 ++ dktX23_of_1
theorem dksX23_of_0 : cX23_of.data.toList.drop 0 = dktX23_of_0 := by decide +kernel
theorem dksX23_of_1 : cX23_of.data.toList.drop 14 = dktX23_of_1 := dk_seg dksX23_of_0 14 rfl rfl
theorem dksX23_of_2 : cX23_of.data.toList.drop 44 = dktX23_of_2 := dk_seg dksX23_of_1 30 rfl rfl
theorem dksX23_of_3 : cX23_of.data.toList.drop 67 = dktX23_of_3 := dk_seg dksX23_of_2 23 rfl rfl
theorem dX23_of_0 : decode cX23_of 0 = .ok (.aload_n 1, 1) := dk_43 (dk_at dksX23_of_0 0 rfl rfl)
theorem dX23_of_1 : decode cX23_of 1 = .ok (.getfield 19, 3) := dk_180 0 19 (dk_at dksX23_of_0 1 rfl rfl)
theorem dX23_of_4 : decode cX23_of 4 = .ok (.getfield 25, 3) := dk_180 0 25 (dk_at dksX23_of_0 4 rfl rfl)
theorem dX23_of_7 : decode cX23_of 7 = .ok (.iload_n 2, 1) := dk_28 (dk_at dksX23_of_0 7 rfl rfl)
theorem dX23_of_8 : decode cX23_of 8 = .ok (.aaload, 1) := dk_50 (dk_at dksX23_of_0 8 rfl rfl)
theorem dX23_of_9 : decode cX23_of 9 = .ok (.astore_n 3, 1) := dk_78 (dk_at dksX23_of_0 9 rfl rfl)
theorem dX23_of_10 : decode cX23_of 10 = .ok (.aload_n 0, 1) := dk_42 (dk_at dksX23_of_0 10 rfl rfl)
theorem dX23_of_11 : decode cX23_of 11 = .ok (.getfield 7, 3) := dk_180 0 7 (dk_at dksX23_of_0 11 rfl rfl)
theorem dX23_of_14 : decode cX23_of 14 = .ok (.tableswitch 69 0 3 #[30, 37, 42, 57], 30) := by decide +kernel
theorem dX23_of_44 : decode cX23_of 44 = .ok (.aload_n 1, 1) := dk_43 (dk_at dksX23_of_2 0 rfl rfl)
theorem dX23_of_45 : decode cX23_of 45 = .ok (.getfield 31, 3) := dk_180 0 31 (dk_at dksX23_of_2 1 rfl rfl)
theorem dX23_of_48 : decode cX23_of 48 = .ok (.iload_n 2, 1) := dk_28 (dk_at dksX23_of_2 4 rfl rfl)
theorem dX23_of_49 : decode cX23_of 49 = .ok (.iaload, 1) := dk_46 (dk_at dksX23_of_2 5 rfl rfl)
theorem dX23_of_50 : decode cX23_of 50 = .ok (.ireturn, 1) := dk_172 (dk_at dksX23_of_2 6 rfl rfl)
theorem dX23_of_51 : decode cX23_of 51 = .ok (.aload_n 3, 1) := dk_45 (dk_at dksX23_of_2 7 rfl rfl)
theorem dX23_of_52 : decode cX23_of 52 = .ok (.getfield 35, 3) := dk_180 0 35 (dk_at dksX23_of_2 8 rfl rfl)
theorem dX23_of_55 : decode cX23_of 55 = .ok (.ireturn, 1) := dk_172 (dk_at dksX23_of_2 11 rfl rfl)
theorem dX23_of_56 : decode cX23_of 56 = .ok (.aload_n 3, 1) := dk_45 (dk_at dksX23_of_2 12 rfl rfl)
theorem dX23_of_57 : decode cX23_of 57 = .ok (.getfield 40, 3) := dk_180 0 40 (dk_at dksX23_of_2 13 rfl rfl)
theorem dX23_of_60 : decode cX23_of 60 = .ok (.aload_n 1, 1) := dk_43 (dk_at dksX23_of_2 16 rfl rfl)
theorem dX23_of_61 : decode cX23_of 61 = .ok (.getfield 44, 3) := dk_180 0 44 (dk_at dksX23_of_2 17 rfl rfl)
theorem dX23_of_64 : decode cX23_of 64 = .ok (.iload_n 2, 1) := dk_28 (dk_at dksX23_of_2 20 rfl rfl)
theorem dX23_of_65 : decode cX23_of 65 = .ok (.iaload, 1) := dk_46 (dk_at dksX23_of_2 21 rfl rfl)
theorem dX23_of_66 : decode cX23_of 66 = .ok (.aaload, 1) := dk_50 (dk_at dksX23_of_2 22 rfl rfl)
theorem dX23_of_67 : decode cX23_of 67 = .ok (.getfield 47, 3) := dk_180 0 47 (dk_at dksX23_of_3 0 rfl rfl)
theorem dX23_of_70 : decode cX23_of 70 = .ok (.ireturn, 1) := dk_172 (dk_at dksX23_of_3 3 rfl rfl)
theorem dX23_of_71 : decode cX23_of 71 = .ok (.aload_n 1, 1) := dk_43 (dk_at dksX23_of_3 4 rfl rfl)
theorem dX23_of_72 : decode cX23_of 72 = .ok (.getfield 19, 3) := dk_180 0 19 (dk_at dksX23_of_3 5 rfl rfl)
theorem dX23_of_75 : decode cX23_of 75 = .ok (.iload_n 2, 1) := dk_28 (dk_at dksX23_of_3 8 rfl rfl)
theorem dX23_of_76 : decode cX23_of 76 = .ok (.invokevirtual 52, 3) := dk_182 0 52 (dk_at dksX23_of_3 9 rfl rfl)
theorem dX23_of_79 : decode cX23_of 79 = .ok (.invokestatic 56, 3) := dk_184 0 56 (dk_at dksX23_of_3 12 rfl rfl)
theorem dX23_of_82 : decode cX23_of 82 = .ok (.ireturn, 1) := dk_172 (dk_at dksX23_of_3 15 rfl rfl)
theorem dX23_of_83 : decode cX23_of 83 = .ok (.aload_n 3, 1) := dk_45 (dk_at dksX23_of_3 16 rfl rfl)
theorem dX23_of_84 : decode cX23_of 84 = .ok (.getfield 61, 3) := dk_180 0 61 (dk_at dksX23_of_3 17 rfl rfl)
theorem dX23_of_87 : decode cX23_of 87 = .ok (.ireturn, 1) := dk_172 (dk_at dksX23_of_3 20 rfl rfl)
theorem fl_X23_19 : gFl "BitingDoors$Counts" 19 [2] 0 := by
  intro args s hts hN ci hc
  simp only [List.mem_cons, List.not_mem_nil, or_false] at hc
  subst hc
  exact ⟨RX3, TX3, 6, "BitingDoors$Walker", gCl_X3, in_X3, by decide, Or.inr ⟨"BitingDoors", va_Nw.use rfl (hN.1 ("BitingDoors$Counts", 19, "BitingDoors$Walker", "house", "LBitingDoors$House;", "BitingDoors") (List.mem_of_getElem? (i := 78) rfl))⟩, fun _ h => h⟩
theorem fl_X23_25 : gFl "BitingDoors$Counts" 25 [3] 2 := by
  intro args s hts hN ci hc
  simp only [List.mem_cons, List.not_mem_nil, or_false] at hc
  subst hc
  exact ⟨RX4, TX4, 9, "BitingDoors$House", gCl_X4, in_X4, by decide, Or.inr ⟨"BitingDoors", va_Nw.use rfl (hN.1 ("BitingDoors$Counts", 25, "BitingDoors$House", "doors", "[LBitingDoors$Door;", "BitingDoors") (List.mem_of_getElem? (i := 77) rfl))⟩, fun _ h => h⟩
theorem fl_X23_31 : gFl "BitingDoors$Counts" 31 [2] 2 := by
  intro args s hts hN ci hc
  simp only [List.mem_cons, List.not_mem_nil, or_false] at hc
  subst hc
  exact ⟨RX3, TX3, 6, "BitingDoors$Walker", gCl_X3, in_X3, by decide, Or.inr ⟨"BitingDoors", va_Nw.use rfl (hN.1 ("BitingDoors$Counts", 31, "BitingDoors$Walker", "angle", "[I", "BitingDoors") (List.mem_of_getElem? (i := 80) rfl))⟩, fun _ h => h⟩
theorem fl_X23_35 : gFl "BitingDoors$Counts" 35 [9] 3 := by
  intro args s hts hN ci hc
  simp only [List.mem_cons, List.not_mem_nil, or_false] at hc
  subst hc
  exact ⟨RX11, TX11, 12, "BitingDoors$Door", gCl_X11, in_X11, by decide, Or.inr ⟨"BitingDoors", va_Nw.use rfl (hN.1 ("BitingDoors$Counts", 35, "BitingDoors$Door", "length", "I", "BitingDoors") (List.mem_of_getElem? (i := 81) rfl))⟩, fun _ h => h⟩
theorem fl_X23_40 : gFl "BitingDoors$Counts" 40 [9] 6 := by
  intro args s hts hN ci hc
  simp only [List.mem_cons, List.not_mem_nil, or_false] at hc
  subst hc
  exact ⟨RX11, TX11, 12, "BitingDoors$Door", gCl_X11, in_X11, by decide, Or.inr ⟨"BitingDoors", va_Nw.use rfl (hN.1 ("BitingDoors$Counts", 40, "BitingDoors$Door", "swept", "[LBitingDoors$Cells;", "BitingDoors") (List.mem_of_getElem? (i := 82) rfl))⟩, fun _ h => h⟩
theorem fl_X23_44 : gFl "BitingDoors$Counts" 44 [2] 1 := by
  intro args s hts hN ci hc
  simp only [List.mem_cons, List.not_mem_nil, or_false] at hc
  subst hc
  exact ⟨RX3, TX3, 6, "BitingDoors$Walker", gCl_X3, in_X3, by decide, Or.inr ⟨"BitingDoors", va_Nw.use rfl (hN.1 ("BitingDoors$Counts", 44, "BitingDoors$Walker", "hanging", "[I", "BitingDoors") (List.mem_of_getElem? (i := 79) rfl))⟩, fun _ h => h⟩
theorem fl_X23_47 : gFl "BitingDoors$Counts" 47 [10] 1 := by
  intro args s hts hN ci hc
  simp only [List.mem_cons, List.not_mem_nil, or_false] at hc
  subst hc
  exact ⟨RX12, TX12, 5, "BitingDoors$Cells", gCl_X12, in_X12, by decide, Or.inr ⟨"BitingDoors", va_Nw.use rfl (hN.1 ("BitingDoors$Counts", 47, "BitingDoors$Cells", "many", "I", "BitingDoors") (List.mem_of_getElem? (i := 84) rfl))⟩, fun _ h => h⟩
theorem fl_X23_61 : gFl "BitingDoors$Counts" 61 [9] 10 := by
  intro args s hts hN ci hc
  simp only [List.mem_cons, List.not_mem_nil, or_false] at hc
  subst hc
  exact ⟨RX11, TX11, 12, "BitingDoors$Door", gCl_X11, in_X11, by decide, Or.inr ⟨"BitingDoors", va_Nw.use rfl (hN.1 ("BitingDoors$Counts", 61, "BitingDoors$Door", "costs", "I", "BitingDoors") (List.mem_of_getElem? (i := 83) rfl))⟩, fun _ h => h⟩
theorem fl_X23_7 : gFl "BitingDoors$Counts" 7 [18] 0 := by
  intro args s hts hN ci hc
  simp only [List.mem_cons, List.not_mem_nil, or_false] at hc
  subst hc
  exact ⟨RX23, TX23, 3, "BitingDoors$Counts", gCl_X23, in_X23, by decide, Or.inl (hts _ q1522), fun _ h => h⟩
theorem dn_X23_of : yX23_of.cls ≠ "java/lang/invoke/MethodHandle" ∧ yX23_of.cls ≠ "java/lang/invoke/VarHandle" ∧ (parseMethodDescriptor yX23_of.desc).map (fun d => d.parameters.length) = some 2 := by decide +kernel
noncomputable def M_X23_of (t : Nat) (p1 : Nat) (p2 : Int32) : Mo Int32 := Mo.bind (chk [18] t) (fun _ => Mo.bind (gR [2] p1 0) (fun v1 => Mo.bind (gR [3] v1 2) (fun v2 => Mo.bind (aldR 5 v2 p2) (fun v3 => Mo.bind (gI [18] t 0) (fun v4 => if v4 = 0 then Mo.bind (gR [2] p1 2) (fun v16 => Mo.bind (aldI 0 v16 p2) (fun v17 => Mo.pure v17)) else if v4 = 1 then Mo.bind (gI [9] v3 3) (fun v15 => Mo.pure v15) else if v4 = 2 then Mo.bind (gR [9] v3 6) (fun v10 => Mo.bind (gR [2] p1 1) (fun v11 => Mo.bind (aldI 0 v11 p2) (fun v12 => Mo.bind (aldR 4 v10 v12) (fun v13 => Mo.bind (gI [10] v13 1) (fun v14 => Mo.pure v14))))) else if v4 = 3 then Mo.bind (gR [2] p1 0) (fun v7 => Mo.bind (M_X4_domain v7 p2) (fun v8 => Mo.bind (M_J10_bitCount v8) (fun v9 => Mo.pure v9))) else Mo.bind (gI [9] v3 10) (fun v6 => Mo.pure v6))))))
set_option maxHeartbeats 4000000 in
theorem ct_X23_of (G : gG) (t : Nat) (p1 : Nat) (p2 : Int32) : gCt G yX23_of cX23_of 4 (some .int) 4 87 [.ref t, .ref p1, .int p2] (M_X23_of t p1 p2) (fun x : Int32 => some (.int x)) := by
  refine gCt.of (by decide) (Nat.le_of_ble_eq_true rfl) (fun K r hG X hd ho => ?_)
  subst hG
  have X : gX K cX23_of 4 "BitingDoors$Counts" "of" (some .int) 4 87 := X
  have hle : gLe (kh1 K) (kh1 K) := gLe.rf
  show V K 4 (kh0 K) 0 [(0, .ref t), (1, .ref p1), (2, .int p2)] []
  generalize kh0 K = h at hd ⊢
  unfold M_X23_of at hd
  obtain ⟨-, hd⟩ := chk_some hd
  refine v_aload_n X dX23_of_0 1 1 rfl rfl ?_
  refine v_getR X hd fl_X23_19 dX23_of_1 (fun v1 hd => ?_)
  refine v_getR X hd fl_X23_25 dX23_of_4 (fun v2 hd => ?_)
  refine v_iload_n X dX23_of_7 2 2 rfl rfl ?_
  refine v_aldR X hd 5 rfl (by decide) (by decide) dX23_of_8 (fun v3 hd => ?_)
  refine v_astore_n (lv2 := [(3, .ref v3), (0, .ref t), (1, .ref p1), (2, .int p2)]) X dX23_of_9 3 rfl (by decide) rfl ?_
  refine v_aload_n X dX23_of_10 1 0 rfl rfl ?_
  refine v_getI X hd fl_X23_7 dX23_of_11 (fun v4 hd => ?_)
  by_cases q0 : v4 = 0
  · have hd := ite_t q0 hd
    refine v_tableIn (k := 0) (off := 30) (tgt := 44) X dX23_of_14 q0 (by decide) (by decide) rfl (by decide) ?_
    refine v_aload_n X dX23_of_44 2 1 rfl rfl ?_
    refine v_getR X hd fl_X23_31 dX23_of_45 (fun v16 hd => ?_)
    refine v_iload_n X dX23_of_48 3 2 rfl rfl ?_
    refine v_iald X hd dX23_of_49 (fun v17 hd => ?_)
    exact v_iret X hd ho dX23_of_50
  · have hd := ite_f q0 hd
    by_cases q1 : v4 = 1
    · have hd := ite_t q1 hd
      refine v_tableIn (k := 1) (off := 37) (tgt := 51) X dX23_of_14 q1 (by decide) (by decide) rfl (by decide) ?_
      refine v_aload_n X dX23_of_51 0 3 rfl rfl ?_
      refine v_getI X hd fl_X23_35 dX23_of_52 (fun v15 hd => ?_)
      exact v_iret X hd ho dX23_of_55
    · have hd := ite_f q1 hd
      by_cases q2 : v4 = 2
      · have hd := ite_t q2 hd
        refine v_tableIn (k := 2) (off := 42) (tgt := 56) X dX23_of_14 q2 (by decide) (by decide) rfl (by decide) ?_
        refine v_aload_n X dX23_of_56 0 3 rfl rfl ?_
        refine v_getR X hd fl_X23_40 dX23_of_57 (fun v10 hd => ?_)
        refine v_aload_n X dX23_of_60 2 1 rfl rfl ?_
        refine v_getR X hd fl_X23_44 dX23_of_61 (fun v11 hd => ?_)
        refine v_iload_n X dX23_of_64 3 2 rfl rfl ?_
        refine v_iald X hd dX23_of_65 (fun v12 hd => ?_)
        refine v_aldR X hd 4 rfl (by decide) (by decide) dX23_of_66 (fun v13 hd => ?_)
        refine v_getI X hd fl_X23_47 dX23_of_67 (fun v14 hd => ?_)
        exact v_iret X hd ho dX23_of_70
      · have hd := ite_f q2 hd
        by_cases q3 : v4 = 3
        · have hd := ite_t q3 hd
          refine v_tableIn (k := 3) (off := 57) (tgt := 71) X dX23_of_14 q3 (by decide) (by decide) rfl (by decide) ?_
          refine v_aload_n X dX23_of_71 2 1 rfl rfl ?_
          refine v_getR X hd fl_X23_19 dX23_of_72 (fun v7 hd => ?_)
          refine v_iload_n X dX23_of_75 3 2 rfl rfl ?_
          refine v_callV X hd hle (ct_X4_domain _ v7 p2) gCl_X4 (lw_V q1584 q1177 q1178 q114 q1179) ⟨rfl, dn_X4_domain⟩ rfl ⟨by decide, by decide⟩ rfl (Nat.le_of_ble_eq_true rfl) dX23_of_76 (fun v8 h hd => ?_)
          show V K 4 h 79 [(3, .ref v3), (0, .ref t), (1, .ref p1), (2, .int p2)] [.int v8]
          refine v_callS X hd hle (ct_J10_bitCount _ v8) (lw_S q1585 q1231 q132 q1232) dn_J10_bitCount rfl ⟨by decide, by decide⟩ rfl (Nat.le_of_ble_eq_true rfl) dX23_of_79 (fun v9 h hd => ?_)
          show V K 4 h 82 [(3, .ref v3), (0, .ref t), (1, .ref p1), (2, .int p2)] [.int v9]
          exact v_iret X hd ho dX23_of_82
        · have hd := ite_f q3 hd
          have eq0 := lv_neT q0 (k := 0) (a := 0) (by decide)
          have eq1 := lv_neT q1 (k := 1) (a := 1) (by decide)
          have eq2 := lv_neT q2 (k := 2) (a := 2) (by decide)
          have eq3 := lv_neT q3 (k := 3) (a := 3) (by decide)
          refine v_tableOut (tgt := 83) X dX23_of_14 (by omega) (by decide) ?_
          refine v_aload_n X dX23_of_83 0 3 rfl rfl ?_
          refine v_getI X hd fl_X23_61 dX23_of_84 (fun v6 hd => ?_)
          exact v_iret X hd ho dX23_of_87
def dkwX23_is_3 : List UInt8 := [172]
abbrev dktX23_is_3 : List UInt8 := dkwX23_is_3 ++ []
def dkwX23_is_2 : List UInt8 := [160, 0, 7, 4, 167, 0, 20, 3, 167, 0, 16, 29, 42, 180, 0, 16, 164, 0, 7, 4, 167, 0, 4, 3]
abbrev dktX23_is_2 : List UInt8 := dkwX23_is_2 ++ dktX23_is_3
def dkwX23_is_1 : List UInt8 := [4, 167, 0, 45, 3, 167, 0, 41, 42, 180, 0, 13, 16, 61, 160, 0, 19, 29, 42, 180, 0, 16]
abbrev dktX23_is_1 : List UInt8 := dkwX23_is_1 ++ dktX23_is_2
def dkwX23_is_0 : List UInt8 := [42, 43, 28, 182, 0, 64, 62, 42, 180, 0, 13, 16, 60, 160, 0, 19, 29, 42, 180, 0, 16, 162, 0, 7]
abbrev dktX23_is_0 : List UInt8 := dkwX23_is_0 ++ dktX23_is_1
theorem dksX23_is_0 : cX23_is.data.toList.drop 0 = dktX23_is_0 := by decide +kernel
theorem dksX23_is_1 : cX23_is.data.toList.drop 24 = dktX23_is_1 := dk_seg dksX23_is_0 24 rfl rfl
theorem dksX23_is_2 : cX23_is.data.toList.drop 46 = dktX23_is_2 := dk_seg dksX23_is_1 22 rfl rfl
theorem dksX23_is_3 : cX23_is.data.toList.drop 70 = dktX23_is_3 := dk_seg dksX23_is_2 24 rfl rfl
theorem dX23_is_0 : decode cX23_is 0 = .ok (.aload_n 0, 1) := dk_42 (dk_at dksX23_is_0 0 rfl rfl)
theorem dX23_is_1 : decode cX23_is 1 = .ok (.aload_n 1, 1) := dk_43 (dk_at dksX23_is_0 1 rfl rfl)
theorem dX23_is_2 : decode cX23_is 2 = .ok (.iload_n 2, 1) := dk_28 (dk_at dksX23_is_0 2 rfl rfl)
theorem dX23_is_3 : decode cX23_is 3 = .ok (.invokevirtual 64, 3) := dk_182 0 64 (dk_at dksX23_is_0 3 rfl rfl)
theorem dX23_is_6 : decode cX23_is 6 = .ok (.istore_n 3, 1) := dk_62 (dk_at dksX23_is_0 6 rfl rfl)
theorem dX23_is_7 : decode cX23_is 7 = .ok (.aload_n 0, 1) := dk_42 (dk_at dksX23_is_0 7 rfl rfl)
theorem dX23_is_8 : decode cX23_is 8 = .ok (.getfield 13, 3) := dk_180 0 13 (dk_at dksX23_is_0 8 rfl rfl)
theorem dX23_is_11 : decode cX23_is 11 = .ok (.bipush 60, 2) := dk_16 60 (dk_at dksX23_is_0 11 rfl rfl)
theorem dX23_is_13 : decode cX23_is 13 = .ok (.if_icmp .ne 19, 3) := dk_160 0 19 (dk_at dksX23_is_0 13 rfl rfl)
theorem dX23_is_16 : decode cX23_is 16 = .ok (.iload_n 3, 1) := dk_29 (dk_at dksX23_is_0 16 rfl rfl)
theorem dX23_is_17 : decode cX23_is 17 = .ok (.aload_n 0, 1) := dk_42 (dk_at dksX23_is_0 17 rfl rfl)
theorem dX23_is_18 : decode cX23_is 18 = .ok (.getfield 16, 3) := dk_180 0 16 (dk_at dksX23_is_0 18 rfl rfl)
theorem dX23_is_21 : decode cX23_is 21 = .ok (.if_icmp .ge 7, 3) := dk_162 0 7 (dk_at dksX23_is_0 21 rfl rfl)
theorem dX23_is_24 : decode cX23_is 24 = .ok (.iconst 1, 1) := dk_4 (dk_at dksX23_is_1 0 rfl rfl)
theorem dX23_is_25 : decode cX23_is 25 = .ok (.goto 45, 3) := dk_167 0 45 (dk_at dksX23_is_1 1 rfl rfl)
theorem dX23_is_28 : decode cX23_is 28 = .ok (.iconst 0, 1) := dk_3 (dk_at dksX23_is_1 4 rfl rfl)
theorem dX23_is_29 : decode cX23_is 29 = .ok (.goto 41, 3) := dk_167 0 41 (dk_at dksX23_is_1 5 rfl rfl)
theorem dX23_is_32 : decode cX23_is 32 = .ok (.aload_n 0, 1) := dk_42 (dk_at dksX23_is_1 8 rfl rfl)
theorem dX23_is_33 : decode cX23_is 33 = .ok (.getfield 13, 3) := dk_180 0 13 (dk_at dksX23_is_1 9 rfl rfl)
theorem dX23_is_36 : decode cX23_is 36 = .ok (.bipush 61, 2) := dk_16 61 (dk_at dksX23_is_1 12 rfl rfl)
theorem dX23_is_38 : decode cX23_is 38 = .ok (.if_icmp .ne 19, 3) := dk_160 0 19 (dk_at dksX23_is_1 14 rfl rfl)
theorem dX23_is_41 : decode cX23_is 41 = .ok (.iload_n 3, 1) := dk_29 (dk_at dksX23_is_1 17 rfl rfl)
theorem dX23_is_42 : decode cX23_is 42 = .ok (.aload_n 0, 1) := dk_42 (dk_at dksX23_is_1 18 rfl rfl)
theorem dX23_is_43 : decode cX23_is 43 = .ok (.getfield 16, 3) := dk_180 0 16 (dk_at dksX23_is_1 19 rfl rfl)
theorem dX23_is_46 : decode cX23_is 46 = .ok (.if_icmp .ne 7, 3) := dk_160 0 7 (dk_at dksX23_is_2 0 rfl rfl)
theorem dX23_is_49 : decode cX23_is 49 = .ok (.iconst 1, 1) := dk_4 (dk_at dksX23_is_2 3 rfl rfl)
theorem dX23_is_50 : decode cX23_is 50 = .ok (.goto 20, 3) := dk_167 0 20 (dk_at dksX23_is_2 4 rfl rfl)
theorem dX23_is_53 : decode cX23_is 53 = .ok (.iconst 0, 1) := dk_3 (dk_at dksX23_is_2 7 rfl rfl)
theorem dX23_is_54 : decode cX23_is 54 = .ok (.goto 16, 3) := dk_167 0 16 (dk_at dksX23_is_2 8 rfl rfl)
theorem dX23_is_57 : decode cX23_is 57 = .ok (.iload_n 3, 1) := dk_29 (dk_at dksX23_is_2 11 rfl rfl)
theorem dX23_is_58 : decode cX23_is 58 = .ok (.aload_n 0, 1) := dk_42 (dk_at dksX23_is_2 12 rfl rfl)
theorem dX23_is_59 : decode cX23_is 59 = .ok (.getfield 16, 3) := dk_180 0 16 (dk_at dksX23_is_2 13 rfl rfl)
theorem dX23_is_62 : decode cX23_is 62 = .ok (.if_icmp .le 7, 3) := dk_164 0 7 (dk_at dksX23_is_2 16 rfl rfl)
theorem dX23_is_65 : decode cX23_is 65 = .ok (.iconst 1, 1) := dk_4 (dk_at dksX23_is_2 19 rfl rfl)
theorem dX23_is_66 : decode cX23_is 66 = .ok (.goto 4, 3) := dk_167 0 4 (dk_at dksX23_is_2 20 rfl rfl)
theorem dX23_is_69 : decode cX23_is 69 = .ok (.iconst 0, 1) := dk_3 (dk_at dksX23_is_2 23 rfl rfl)
theorem dX23_is_70 : decode cX23_is 70 = .ok (.ireturn, 1) := dk_172 (dk_at dksX23_is_3 0 rfl rfl)
theorem fl_X23_13 : gFl "BitingDoors$Counts" 13 [18] 1 := by
  intro args s hts hN ci hc
  simp only [List.mem_cons, List.not_mem_nil, or_false] at hc
  subst hc
  exact ⟨RX23, TX23, 3, "BitingDoors$Counts", gCl_X23, in_X23, by decide, Or.inl (hts _ q1523), fun _ h => h⟩
theorem fl_X23_16 : gFl "BitingDoors$Counts" 16 [18] 2 := by
  intro args s hts hN ci hc
  simp only [List.mem_cons, List.not_mem_nil, or_false] at hc
  subst hc
  exact ⟨RX23, TX23, 3, "BitingDoors$Counts", gCl_X23, in_X23, by decide, Or.inl (hts _ q1524), fun _ h => h⟩
theorem dn_X23_is : yX23_is.cls ≠ "java/lang/invoke/MethodHandle" ∧ yX23_is.cls ≠ "java/lang/invoke/VarHandle" ∧ (parseMethodDescriptor yX23_is.desc).map (fun d => d.parameters.length) = some 2 := by decide +kernel
noncomputable def M_X23_is (t : Nat) (p1 : Nat) (p2 : Int32) : Mo Bool := Mo.bind (chk [18] t) (fun _ => Mo.bind (M_X23_of t p1 p2) (fun v1 => Mo.bind (gI [18] t 1) (fun v2 => Mo.bind ((if v2 = 60 then Mo.bind (gI [18] t 2) (fun v7 => if v7 ≤ v1 then Mo.pure false else Mo.pure true) else Mo.bind (gI [18] t 1) (fun v4 => if v4 = 61 then Mo.bind (gI [18] t 2) (fun v6 => if v1 = v6 then Mo.pure true else Mo.pure false) else Mo.bind (gI [18] t 2) (fun v5 => if v1 ≤ v5 then Mo.pure false else Mo.pure true)) : Mo (Bool))) (fun u3 => Mo.pure u3))))
set_option maxHeartbeats 4000000 in
theorem ct_X23_is (G : gG) (t : Nat) (p1 : Nat) (p2 : Int32) : gCt G yX23_is cX23_is 4 (some .boolean) 5 110 [.ref t, .ref p1, .int p2] (M_X23_is t p1 p2) (fun x : Bool => some (.int (b2i x))) := by
  refine gCt.of (by decide) (Nat.le_of_ble_eq_true rfl) (fun K r hG X hd ho => ?_)
  subst hG
  have X : gX K cX23_is 4 "BitingDoors$Counts" "is" (some .boolean) 5 110 := X
  have hle : gLe (kh1 K) (kh1 K) := gLe.rf
  show V K 4 (kh0 K) 0 [(0, .ref t), (1, .ref p1), (2, .int p2)] []
  generalize kh0 K = h at hd ⊢
  unfold M_X23_is at hd
  obtain ⟨-, hd⟩ := chk_some hd
  refine v_aload_n X dX23_is_0 0 0 rfl rfl ?_
  refine v_aload_n X dX23_is_1 1 1 rfl rfl ?_
  refine v_iload_n X dX23_is_2 2 2 rfl rfl ?_
  refine v_callV X hd hle (ct_X23_of _ t p1 p2) gCl_X23 (lw_V q1580 q1582 qs34 q143 q1583) ⟨rfl, dn_X23_of⟩ rfl ⟨by decide, by decide⟩ rfl (Nat.le_of_ble_eq_true rfl) dX23_is_3 (fun v1 h hd => ?_)
  show V K 4 h 6 [(0, .ref t), (1, .ref p1), (2, .int p2)] [.int v1]
  refine v_istore_n (lv2 := [(3, .int v1), (0, .ref t), (1, .ref p1), (2, .int p2)]) X dX23_is_6 3 rfl (by decide) rfl ?_
  refine v_aload_n X dX23_is_7 1 0 rfl rfl ?_
  refine v_getI X hd fl_X23_13 dX23_is_8 (fun v2 hd => ?_)
  refine v_bipush (v := 60) X dX23_is_11 (by decide) ?_
  obtain ⟨u3, h1, hd, hd2⟩ := Mo.bind_some hd
  have KJ : V K 4 h1 70 [] [.int (b2i u3)] := by
    clear hd
    have hd := hd2
    exact v_zret X hd rfl ho dX23_is_70
  have hle := (Mo.le hd2).tr hle
  clear hd2
  refine v_icmp_ne (tgt := 32) X dX23_is_13 (by decide) (fun q => ?_) (fun q => ?_)
  · have hd := ite_f q hd
    refine v_aload_n X dX23_is_32 1 0 rfl rfl ?_
    refine v_getI X hd fl_X23_13 dX23_is_33 (fun v4 hd => ?_)
    refine v_bipush (v := 61) X dX23_is_36 (by decide) ?_
    refine v_icmp_ne (tgt := 57) X dX23_is_38 (by decide) (fun q => ?_) (fun q => ?_)
    · have hd := ite_f q hd
      refine v_iload_n X dX23_is_57 0 3 rfl rfl ?_
      refine v_aload_n X dX23_is_58 1 0 rfl rfl ?_
      refine v_getI X hd fl_X23_16 dX23_is_59 (fun v5 hd => ?_)
      refine v_icmp_le (tgt := 69) X dX23_is_62 (by decide) (fun q => ?_) (fun q => ?_)
      · have hd := ite_t q hd
        refine v_iconst (v := 0) X dX23_is_69 (by decide) ?_
        exact v_loc [] rfl (v_at (P := fun (u3 : Bool) h => V K 4 h 70 [] [.int (b2i u3)]) hd KJ)
      · have hd := ite_f q hd
        refine v_iconst (v := 1) X dX23_is_65 (by decide) ?_
        refine v_goto (tgt := 70) X dX23_is_66 (by decide) ?_
        exact v_loc [] rfl (v_at (P := fun (u3 : Bool) h => V K 4 h 70 [] [.int (b2i u3)]) hd KJ)
    · have hd := ite_t q hd
      refine v_iload_n X dX23_is_41 0 3 rfl rfl ?_
      refine v_aload_n X dX23_is_42 1 0 rfl rfl ?_
      refine v_getI X hd fl_X23_16 dX23_is_43 (fun v6 hd => ?_)
      refine v_icmp_ne (tgt := 53) X dX23_is_46 (by decide) (fun q => ?_) (fun q => ?_)
      · have hd := ite_f q hd
        refine v_iconst (v := 0) X dX23_is_53 (by decide) ?_
        refine v_goto (tgt := 70) X dX23_is_54 (by decide) ?_
        exact v_loc [] rfl (v_at (P := fun (u3 : Bool) h => V K 4 h 70 [] [.int (b2i u3)]) hd KJ)
      · have hd := ite_t q hd
        refine v_iconst (v := 1) X dX23_is_49 (by decide) ?_
        refine v_goto (tgt := 70) X dX23_is_50 (by decide) ?_
        exact v_loc [] rfl (v_at (P := fun (u3 : Bool) h => V K 4 h 70 [] [.int (b2i u3)]) hd KJ)
  · have hd := ite_t q hd
    refine v_iload_n X dX23_is_16 0 3 rfl rfl ?_
    refine v_aload_n X dX23_is_17 1 0 rfl rfl ?_
    refine v_getI X hd fl_X23_16 dX23_is_18 (fun v7 hd => ?_)
    refine v_icmp_ge (tgt := 28) X dX23_is_21 (by decide) (fun q => ?_) (fun q => ?_)
    · have hd := ite_t q hd
      refine v_iconst (v := 0) X dX23_is_28 (by decide) ?_
      refine v_goto (tgt := 70) X dX23_is_29 (by decide) ?_
      exact v_loc [] rfl (v_at (P := fun (u3 : Bool) h => V K 4 h 70 [] [.int (b2i u3)]) hd KJ)
    · have hd := ite_f q hd
      refine v_iconst (v := 1) X dX23_is_24 (by decide) ?_
      refine v_goto (tgt := 70) X dX23_is_25 (by decide) ?_
      exact v_loc [] rfl (v_at (P := fun (u3 : Bool) h => V K 4 h 70 [] [.int (b2i u3)]) hd KJ)
