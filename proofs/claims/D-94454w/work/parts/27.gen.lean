set_option maxRecDepth 100000
def dkwX1_judged_1 : List UInt8 := [167, 0, 5, 16, 254, 172]
abbrev dktX1_judged_1 : List UInt8 := dkwX1_judged_1 ++ []
def dkwX1_judged_0 : List UInt8 := [42, 180, 1, 179, 153, 0, 21, 27, 3, 7, 184, 0, 248, 153, 0, 12, 42, 180, 0, 154, 27, 46]
abbrev dktX1_judged_0 : List UInt8 := dkwX1_judged_0 ++ dktX1_judged_1
theorem dksX1_judged_0 : cX1_judged.data.toList.drop 0 = dktX1_judged_0 := by decide +kernel
theorem dksX1_judged_1 : cX1_judged.data.toList.drop 22 = dktX1_judged_1 := dk_seg dksX1_judged_0 22 rfl rfl
theorem dX1_judged_0 : decode cX1_judged 0 = .ok (.aload_n 0, 1) := dk_42 (dk_at dksX1_judged_0 0 rfl rfl)
theorem dX1_judged_1 : decode cX1_judged 1 = .ok (.getfield 435, 3) := dk_180 1 179 (dk_at dksX1_judged_0 1 rfl rfl)
theorem dX1_judged_4 : decode cX1_judged 4 = .ok (.ifCond .eq 21, 3) := dk_153 0 21 (dk_at dksX1_judged_0 4 rfl rfl)
theorem dX1_judged_7 : decode cX1_judged 7 = .ok (.iload_n 1, 1) := dk_27 (dk_at dksX1_judged_0 7 rfl rfl)
theorem dX1_judged_8 : decode cX1_judged 8 = .ok (.iconst 0, 1) := dk_3 (dk_at dksX1_judged_0 8 rfl rfl)
theorem dX1_judged_9 : decode cX1_judged 9 = .ok (.iconst 4, 1) := dk_7 (dk_at dksX1_judged_0 9 rfl rfl)
theorem dX1_judged_10 : decode cX1_judged 10 = .ok (.invokestatic 248, 3) := dk_184 0 248 (dk_at dksX1_judged_0 10 rfl rfl)
theorem dX1_judged_13 : decode cX1_judged 13 = .ok (.ifCond .eq 12, 3) := dk_153 0 12 (dk_at dksX1_judged_0 13 rfl rfl)
theorem dX1_judged_16 : decode cX1_judged 16 = .ok (.aload_n 0, 1) := dk_42 (dk_at dksX1_judged_0 16 rfl rfl)
theorem dX1_judged_17 : decode cX1_judged 17 = .ok (.getfield 154, 3) := dk_180 0 154 (dk_at dksX1_judged_0 17 rfl rfl)
theorem dX1_judged_20 : decode cX1_judged 20 = .ok (.iload_n 1, 1) := dk_27 (dk_at dksX1_judged_0 20 rfl rfl)
theorem dX1_judged_21 : decode cX1_judged 21 = .ok (.iaload, 1) := dk_46 (dk_at dksX1_judged_0 21 rfl rfl)
theorem dX1_judged_22 : decode cX1_judged 22 = .ok (.goto 5, 3) := dk_167 0 5 (dk_at dksX1_judged_1 0 rfl rfl)
theorem dX1_judged_25 : decode cX1_judged 25 = .ok (.bipush (-2), 2) := dk_16 254 (dk_at dksX1_judged_1 3 rfl rfl)
theorem dX1_judged_27 : decode cX1_judged 27 = .ok (.ireturn, 1) := dk_172 (dk_at dksX1_judged_1 5 rfl rfl)
theorem fl_X1_154 : gFl "BitingDoors" 154 [0] 32 := by
  intro args s hts hN ci hc
  simp only [List.mem_cons, List.not_mem_nil, or_false] at hc
  subst hc
  exact ⟨RX1, TX1, 46, "BitingDoors", gCl_X1, in_X1, by decide, Or.inl (hts _ q533), fun _ h => h⟩
theorem fl_X1_435 : gFl "BitingDoors" 435 [0] 33 := by
  intro args s hts hN ci hc
  simp only [List.mem_cons, List.not_mem_nil, or_false] at hc
  subst hc
  exact ⟨RX1, TX1, 46, "BitingDoors", gCl_X1, in_X1, by decide, Or.inl (hts _ q534), fun _ h => h⟩
theorem dn_X1_judged : yX1_judged.cls ≠ "java/lang/invoke/MethodHandle" ∧ yX1_judged.cls ≠ "java/lang/invoke/VarHandle" ∧ (parseMethodDescriptor yX1_judged.desc).map (fun d => d.parameters.length) = some 1 := by decide +kernel
noncomputable def M_X1_judged (t : Nat) (p1 : Int32) : Mo Int32 := Mo.bind (chk [0] t) (fun _ => Mo.bind (gZ [0] t 33) (fun v1 => Mo.bind ((cond v1 (Mo.bind (M_X1_isIn p1 0 4) (fun v3 => cond v3 (Mo.bind (gR [0] t 32) (fun v4 => Mo.bind (aldI 0 v4 p1) (fun v5 => Mo.pure v5))) (Mo.pure (-2)))) (Mo.pure (-2)) : Mo (Int32))) (fun u2 => Mo.pure u2)))
set_option maxHeartbeats 4000000 in
theorem ct_X1_judged (G : gG) (t : Nat) (p1 : Int32) : gCt G yX1_judged cX1_judged 2 (some .int) 1 22 [.ref t, .int p1] (M_X1_judged t p1) (fun x : Int32 => some (.int x)) := by
  refine gCt.of (by decide) (Nat.le_of_ble_eq_true rfl) (fun K r hG X hd ho => ?_)
  subst hG
  have X : gX K cX1_judged 2 "BitingDoors" "judged" (some .int) 1 22 := X
  have hle : gLe (kh1 K) (kh1 K) := gLe.rf
  show V K 2 (kh0 K) 0 [(0, .ref t), (1, .int p1)] []
  generalize kh0 K = h at hd ⊢
  unfold M_X1_judged at hd
  obtain ⟨-, hd⟩ := chk_some hd
  refine v_aload_n X dX1_judged_0 0 0 rfl rfl ?_
  refine v_getZ X hd fl_X1_435 dX1_judged_1 (fun v1 hd => ?_)
  obtain ⟨u2, h1, hd, hd2⟩ := Mo.bind_some hd
  have KJ : V K 2 h1 27 [] [.int u2] := by
    clear hd
    have hd := hd2
    exact v_iret X hd ho dX1_judged_27
  have hle := (Mo.le hd2).tr hle
  clear hd2
  refine v_ifZ_eq (tgt := 25) X dX1_judged_4 (by decide) (fun q => ?_) (fun q => ?_)
  · have hd := cnd_f q hd
    refine v_bipush (v := (-2)) X dX1_judged_25 (by decide) ?_
    exact v_loc [] rfl (v_at (P := fun (u2 : Int32) h => V K 2 h 27 [] [.int u2]) hd KJ)
  · have hd := cnd_t q hd
    refine v_iload_n X dX1_judged_7 1 1 rfl rfl ?_
    refine v_iconst (v := 0) X dX1_judged_8 (by decide) ?_
    refine v_iconst (v := 4) X dX1_judged_9 (by decide) ?_
    refine v_callS X hd hle (ct_X1_isIn _ p1 0 4) (lw_S q1119 q688 q109 q689) dn_X1_isIn rfl ⟨by decide, by decide⟩ rfl (Nat.le_of_ble_eq_true rfl) dX1_judged_10 (fun v3 h hd => ?_)
    show V K 2 h 13 [(0, .ref t), (1, .int p1)] [.int (b2i v3)]
    refine v_ifZ_eq (tgt := 25) X dX1_judged_13 (by decide) (fun q => ?_) (fun q => ?_)
    · have hd := cnd_f q hd
      refine v_bipush (v := (-2)) X dX1_judged_25 (by decide) ?_
      exact v_loc [] rfl (v_at (P := fun (u2 : Int32) h => V K 2 h 27 [] [.int u2]) hd KJ)
    · have hd := cnd_t q hd
      refine v_aload_n X dX1_judged_16 0 0 rfl rfl ?_
      refine v_getR X hd fl_X1_154 dX1_judged_17 (fun v4 hd => ?_)
      refine v_iload_n X dX1_judged_20 1 1 rfl rfl ?_
      refine v_iald X hd dX1_judged_21 (fun v5 hd => ?_)
      refine v_goto (tgt := 27) X dX1_judged_22 (by decide) ?_
      exact v_loc [] rfl (v_at (P := fun (u2 : Int32) h => V K 2 h 27 [] [.int u2]) hd KJ)
def dkwX1_does_1 : List UInt8 := [42, 180, 0, 90, 27, 182, 1, 163, 167, 0, 5, 16, 254, 172]
abbrev dktX1_does_1 : List UInt8 := dkwX1_does_1 ++ []
def dkwX1_does_0 : List UInt8 := [27, 2, 7, 5, 42, 180, 0, 90, 180, 0, 243, 180, 0, 247, 104, 96, 4, 100, 184, 0, 248, 153, 0, 14]
abbrev dktX1_does_0 : List UInt8 := dkwX1_does_0 ++ dktX1_does_1
theorem dksX1_does_0 : cX1_does.data.toList.drop 0 = dktX1_does_0 := by decide +kernel
theorem dksX1_does_1 : cX1_does.data.toList.drop 24 = dktX1_does_1 := dk_seg dksX1_does_0 24 rfl rfl
theorem dX1_does_0 : decode cX1_does 0 = .ok (.iload_n 1, 1) := dk_27 (dk_at dksX1_does_0 0 rfl rfl)
theorem dX1_does_1 : decode cX1_does 1 = .ok (.iconst (-1), 1) := dk_2 (dk_at dksX1_does_0 1 rfl rfl)
theorem dX1_does_2 : decode cX1_does 2 = .ok (.iconst 4, 1) := dk_7 (dk_at dksX1_does_0 2 rfl rfl)
theorem dX1_does_3 : decode cX1_does 3 = .ok (.iconst 2, 1) := dk_5 (dk_at dksX1_does_0 3 rfl rfl)
theorem dX1_does_4 : decode cX1_does 4 = .ok (.aload_n 0, 1) := dk_42 (dk_at dksX1_does_0 4 rfl rfl)
theorem dX1_does_5 : decode cX1_does 5 = .ok (.getfield 90, 3) := dk_180 0 90 (dk_at dksX1_does_0 5 rfl rfl)
theorem dX1_does_8 : decode cX1_does 8 = .ok (.getfield 243, 3) := dk_180 0 243 (dk_at dksX1_does_0 8 rfl rfl)
theorem dX1_does_11 : decode cX1_does 11 = .ok (.getfield 247, 3) := dk_180 0 247 (dk_at dksX1_does_0 11 rfl rfl)
theorem dX1_does_14 : decode cX1_does 14 = .ok (.imul, 1) := dk_104 (dk_at dksX1_does_0 14 rfl rfl)
theorem dX1_does_15 : decode cX1_does 15 = .ok (.iadd, 1) := dk_96 (dk_at dksX1_does_0 15 rfl rfl)
theorem dX1_does_16 : decode cX1_does 16 = .ok (.iconst 1, 1) := dk_4 (dk_at dksX1_does_0 16 rfl rfl)
theorem dX1_does_17 : decode cX1_does 17 = .ok (.isub, 1) := dk_100 (dk_at dksX1_does_0 17 rfl rfl)
theorem dX1_does_18 : decode cX1_does 18 = .ok (.invokestatic 248, 3) := dk_184 0 248 (dk_at dksX1_does_0 18 rfl rfl)
theorem dX1_does_21 : decode cX1_does 21 = .ok (.ifCond .eq 14, 3) := dk_153 0 14 (dk_at dksX1_does_0 21 rfl rfl)
theorem dX1_does_24 : decode cX1_does 24 = .ok (.aload_n 0, 1) := dk_42 (dk_at dksX1_does_1 0 rfl rfl)
theorem dX1_does_25 : decode cX1_does 25 = .ok (.getfield 90, 3) := dk_180 0 90 (dk_at dksX1_does_1 1 rfl rfl)
theorem dX1_does_28 : decode cX1_does 28 = .ok (.iload_n 1, 1) := dk_27 (dk_at dksX1_does_1 4 rfl rfl)
theorem dX1_does_29 : decode cX1_does 29 = .ok (.invokevirtual 419, 3) := dk_182 1 163 (dk_at dksX1_does_1 5 rfl rfl)
theorem dX1_does_32 : decode cX1_does 32 = .ok (.goto 5, 3) := dk_167 0 5 (dk_at dksX1_does_1 8 rfl rfl)
theorem dX1_does_35 : decode cX1_does 35 = .ok (.bipush (-2), 2) := dk_16 254 (dk_at dksX1_does_1 11 rfl rfl)
theorem dX1_does_37 : decode cX1_does 37 = .ok (.ireturn, 1) := dk_172 (dk_at dksX1_does_1 13 rfl rfl)
theorem dn_X1_does : yX1_does.cls ≠ "java/lang/invoke/MethodHandle" ∧ yX1_does.cls ≠ "java/lang/invoke/VarHandle" ∧ (parseMethodDescriptor yX1_does.desc).map (fun d => d.parameters.length) = some 1 := by decide +kernel
noncomputable def M_X1_does (t : Nat) (p1 : Int32) : Mo Int32 := Mo.bind (chk [0] t) (fun _ => Mo.bind (gR [0] t 9) (fun v1 => Mo.bind (gR [2] v1 0) (fun v2 => Mo.bind (gI [3] v2 6) (fun v3 => Mo.bind (M_X1_isIn p1 (-1) ((4 + (2 * v3)) - 1)) (fun v4 => Mo.bind ((cond v4 (Mo.bind (gR [0] t 9) (fun v6 => Mo.bind (M_X3_minute v6 p1) (fun v7 => Mo.pure v7))) (Mo.pure (-2)) : Mo (Int32))) (fun u5 => Mo.pure u5))))))
set_option maxHeartbeats 4000000 in
theorem ct_X1_does (G : gG) (t : Nat) (p1 : Int32) : gCt G yX1_does cX1_does 2 (some .int) 6 137 [.ref t, .int p1] (M_X1_does t p1) (fun x : Int32 => some (.int x)) := by
  refine gCt.of (by decide) (Nat.le_of_ble_eq_true rfl) (fun K r hG X hd ho => ?_)
  subst hG
  have X : gX K cX1_does 2 "BitingDoors" "does" (some .int) 6 137 := X
  have hle : gLe (kh1 K) (kh1 K) := gLe.rf
  show V K 2 (kh0 K) 0 [(0, .ref t), (1, .int p1)] []
  generalize kh0 K = h at hd ⊢
  unfold M_X1_does at hd
  obtain ⟨-, hd⟩ := chk_some hd
  refine v_iload_n X dX1_does_0 1 1 rfl rfl ?_
  refine v_iconst (v := (-1)) X dX1_does_1 (by decide) ?_
  refine v_iconst (v := 4) X dX1_does_2 (by decide) ?_
  refine v_iconst (v := 2) X dX1_does_3 (by decide) ?_
  refine v_aload_n X dX1_does_4 0 0 rfl rfl ?_
  refine v_getR X hd fl_X1_90 dX1_does_5 (fun v1 hd => ?_)
  refine v_getR X hd fl_X1_243 dX1_does_8 (fun v2 hd => ?_)
  refine v_getI X hd fl_X1_247 dX1_does_11 (fun v3 hd => ?_)
  refine v_imul X dX1_does_14 ?_
  refine v_iadd X dX1_does_15 ?_
  refine v_iconst (v := 1) X dX1_does_16 (by decide) ?_
  refine v_isub X dX1_does_17 ?_
  refine v_callS X hd hle (ct_X1_isIn _ p1 (-1) ((4 + (2 * v3)) - 1)) (lw_S q1119 q688 q109 q689) dn_X1_isIn rfl ⟨by decide, by decide⟩ rfl (Nat.le_of_ble_eq_true rfl) dX1_does_18 (fun v4 h hd => ?_)
  show V K 2 h 21 [(0, .ref t), (1, .int p1)] [.int (b2i v4)]
  obtain ⟨u5, h1, hd, hd2⟩ := Mo.bind_some hd
  have KJ : V K 2 h1 37 [] [.int u5] := by
    clear hd
    have hd := hd2
    exact v_iret X hd ho dX1_does_37
  have hle := (Mo.le hd2).tr hle
  clear hd2
  refine v_ifZ_eq (tgt := 35) X dX1_does_21 (by decide) (fun q => ?_) (fun q => ?_)
  · have hd := cnd_f q hd
    refine v_bipush (v := (-2)) X dX1_does_35 (by decide) ?_
    exact v_loc [] rfl (v_at (P := fun (u5 : Int32) h => V K 2 h 37 [] [.int u5]) hd KJ)
  · have hd := cnd_t q hd
    refine v_aload_n X dX1_does_24 0 0 rfl rfl ?_
    refine v_getR X hd fl_X1_90 dX1_does_25 (fun v6 hd => ?_)
    refine v_iload_n X dX1_does_28 1 1 rfl rfl ?_
    refine v_callV X hd hle (ct_X3_minute _ v6 p1) gCl_X3 (lw_V q1297 q1298 q1299 q113 q1300) ⟨rfl, dn_X3_minute⟩ rfl ⟨by decide, by decide⟩ rfl (Nat.le_of_ble_eq_true rfl) dX1_does_29 (fun v7 h hd => ?_)
    show V K 2 h 32 [(0, .ref t), (1, .int p1)] [.int v7]
    refine v_goto (tgt := 37) X dX1_does_32 (by decide) ?_
    exact v_loc [] rfl (v_at (P := fun (u5 : Int32) h => V K 2 h 37 [] [.int u5]) hd KJ)
def dkwX1_cell_1 : List UInt8 := [180, 1, 4, 16, 10, 28, 104, 27, 96, 46, 167, 0, 4, 2, 172]
abbrev dktX1_cell_1 : List UInt8 := dkwX1_cell_1 ++ []
def dkwX1_cell_0 : List UInt8 := [42, 180, 0, 90, 180, 0, 243, 27, 28, 182, 1, 0, 153, 0, 23, 42, 180, 0, 90, 180, 0, 243]
abbrev dktX1_cell_0 : List UInt8 := dkwX1_cell_0 ++ dktX1_cell_1
theorem dksX1_cell_0 : cX1_cell.data.toList.drop 0 = dktX1_cell_0 := by decide +kernel
theorem dksX1_cell_1 : cX1_cell.data.toList.drop 22 = dktX1_cell_1 := dk_seg dksX1_cell_0 22 rfl rfl
theorem dX1_cell_0 : decode cX1_cell 0 = .ok (.aload_n 0, 1) := dk_42 (dk_at dksX1_cell_0 0 rfl rfl)
theorem dX1_cell_1 : decode cX1_cell 1 = .ok (.getfield 90, 3) := dk_180 0 90 (dk_at dksX1_cell_0 1 rfl rfl)
theorem dX1_cell_4 : decode cX1_cell 4 = .ok (.getfield 243, 3) := dk_180 0 243 (dk_at dksX1_cell_0 4 rfl rfl)
theorem dX1_cell_7 : decode cX1_cell 7 = .ok (.iload_n 1, 1) := dk_27 (dk_at dksX1_cell_0 7 rfl rfl)
theorem dX1_cell_8 : decode cX1_cell 8 = .ok (.iload_n 2, 1) := dk_28 (dk_at dksX1_cell_0 8 rfl rfl)
theorem dX1_cell_9 : decode cX1_cell 9 = .ok (.invokevirtual 256, 3) := dk_182 1 0 (dk_at dksX1_cell_0 9 rfl rfl)
theorem dX1_cell_12 : decode cX1_cell 12 = .ok (.ifCond .eq 23, 3) := dk_153 0 23 (dk_at dksX1_cell_0 12 rfl rfl)
theorem dX1_cell_15 : decode cX1_cell 15 = .ok (.aload_n 0, 1) := dk_42 (dk_at dksX1_cell_0 15 rfl rfl)
theorem dX1_cell_16 : decode cX1_cell 16 = .ok (.getfield 90, 3) := dk_180 0 90 (dk_at dksX1_cell_0 16 rfl rfl)
theorem dX1_cell_19 : decode cX1_cell 19 = .ok (.getfield 243, 3) := dk_180 0 243 (dk_at dksX1_cell_0 19 rfl rfl)
theorem dX1_cell_22 : decode cX1_cell 22 = .ok (.getfield 260, 3) := dk_180 1 4 (dk_at dksX1_cell_1 0 rfl rfl)
theorem dX1_cell_25 : decode cX1_cell 25 = .ok (.bipush 10, 2) := dk_16 10 (dk_at dksX1_cell_1 3 rfl rfl)
theorem dX1_cell_27 : decode cX1_cell 27 = .ok (.iload_n 2, 1) := dk_28 (dk_at dksX1_cell_1 5 rfl rfl)
theorem dX1_cell_28 : decode cX1_cell 28 = .ok (.imul, 1) := dk_104 (dk_at dksX1_cell_1 6 rfl rfl)
theorem dX1_cell_29 : decode cX1_cell 29 = .ok (.iload_n 1, 1) := dk_27 (dk_at dksX1_cell_1 7 rfl rfl)
theorem dX1_cell_30 : decode cX1_cell 30 = .ok (.iadd, 1) := dk_96 (dk_at dksX1_cell_1 8 rfl rfl)
theorem dX1_cell_31 : decode cX1_cell 31 = .ok (.iaload, 1) := dk_46 (dk_at dksX1_cell_1 9 rfl rfl)
theorem dX1_cell_32 : decode cX1_cell 32 = .ok (.goto 4, 3) := dk_167 0 4 (dk_at dksX1_cell_1 10 rfl rfl)
theorem dX1_cell_35 : decode cX1_cell 35 = .ok (.iconst (-1), 1) := dk_2 (dk_at dksX1_cell_1 13 rfl rfl)
theorem dX1_cell_36 : decode cX1_cell 36 = .ok (.ireturn, 1) := dk_172 (dk_at dksX1_cell_1 14 rfl rfl)
theorem fl_X1_260 : gFl "BitingDoors" 260 [3] 0 := by
  intro args s hts hN ci hc
  simp only [List.mem_cons, List.not_mem_nil, or_false] at hc
  subst hc
  exact ⟨RX4, TX4, 9, "BitingDoors$House", gCl_X4, in_X4, by decide, Or.inr ⟨"BitingDoors", va_Nw.use rfl (hN.1 ("BitingDoors", 260, "BitingDoors$House", "cells", "[I", "BitingDoors") (List.mem_of_getElem? (i := 0) rfl))⟩, fun _ h => h⟩
theorem dn_X1_cell : yX1_cell.cls ≠ "java/lang/invoke/MethodHandle" ∧ yX1_cell.cls ≠ "java/lang/invoke/VarHandle" ∧ (parseMethodDescriptor yX1_cell.desc).map (fun d => d.parameters.length) = some 2 := by decide +kernel
noncomputable def M_X1_cell (t : Nat) (p1 : Int32) (p2 : Int32) : Mo Int32 := Mo.bind (chk [0] t) (fun _ => Mo.bind (gR [0] t 9) (fun v1 => Mo.bind (gR [2] v1 0) (fun v2 => Mo.bind (M_X4_isCell v2 p1 p2) (fun v3 => Mo.bind ((cond v3 (Mo.bind (gR [0] t 9) (fun v5 => Mo.bind (gR [2] v5 0) (fun v6 => Mo.bind (gR [3] v6 0) (fun v7 => Mo.bind (aldI 0 v7 ((10 * p2) + p1)) (fun v8 => Mo.pure v8))))) (Mo.pure (-1)) : Mo (Int32))) (fun u4 => Mo.pure u4)))))
set_option maxHeartbeats 4000000 in
theorem ct_X1_cell (G : gG) (t : Nat) (p1 : Int32) (p2 : Int32) : gCt G yX1_cell cX1_cell 3 (some .int) 2 44 [.ref t, .int p1, .int p2] (M_X1_cell t p1 p2) (fun x : Int32 => some (.int x)) := by
  refine gCt.of (by decide) (Nat.le_of_ble_eq_true rfl) (fun K r hG X hd ho => ?_)
  subst hG
  have X : gX K cX1_cell 3 "BitingDoors" "cell" (some .int) 2 44 := X
  have hle : gLe (kh1 K) (kh1 K) := gLe.rf
  show V K 3 (kh0 K) 0 [(0, .ref t), (1, .int p1), (2, .int p2)] []
  generalize kh0 K = h at hd ⊢
  unfold M_X1_cell at hd
  obtain ⟨-, hd⟩ := chk_some hd
  refine v_aload_n X dX1_cell_0 0 0 rfl rfl ?_
  refine v_getR X hd fl_X1_90 dX1_cell_1 (fun v1 hd => ?_)
  refine v_getR X hd fl_X1_243 dX1_cell_4 (fun v2 hd => ?_)
  refine v_iload_n X dX1_cell_7 1 1 rfl rfl ?_
  refine v_iload_n X dX1_cell_8 2 2 rfl rfl ?_
  refine v_callV X hd hle (ct_X4_isCell _ v2 p1 p2) gCl_X4 (lw_V q1110 q827 q828 q114 q829) ⟨rfl, dn_X4_isCell⟩ rfl ⟨by decide, by decide⟩ rfl (Nat.le_of_ble_eq_true rfl) dX1_cell_9 (fun v3 h hd => ?_)
  show V K 3 h 12 [(0, .ref t), (1, .int p1), (2, .int p2)] [.int (b2i v3)]
  obtain ⟨u4, h1, hd, hd2⟩ := Mo.bind_some hd
  have KJ : V K 3 h1 36 [] [.int u4] := by
    clear hd
    have hd := hd2
    exact v_iret X hd ho dX1_cell_36
  have hle := (Mo.le hd2).tr hle
  clear hd2
  refine v_ifZ_eq (tgt := 35) X dX1_cell_12 (by decide) (fun q => ?_) (fun q => ?_)
  · have hd := cnd_f q hd
    refine v_iconst (v := (-1)) X dX1_cell_35 (by decide) ?_
    exact v_loc [] rfl (v_at (P := fun (u4 : Int32) h => V K 3 h 36 [] [.int u4]) hd KJ)
  · have hd := cnd_t q hd
    refine v_aload_n X dX1_cell_15 0 0 rfl rfl ?_
    refine v_getR X hd fl_X1_90 dX1_cell_16 (fun v5 hd => ?_)
    refine v_getR X hd fl_X1_243 dX1_cell_19 (fun v6 hd => ?_)
    refine v_getR X hd fl_X1_260 dX1_cell_22 (fun v7 hd => ?_)
    refine v_bipush (v := 10) X dX1_cell_25 (by decide) ?_
    refine v_iload_n X dX1_cell_27 2 2 rfl rfl ?_
    refine v_imul X dX1_cell_28 ?_
    refine v_iload_n X dX1_cell_29 1 1 rfl rfl ?_
    refine v_iadd X dX1_cell_30 ?_
    refine v_iald X hd dX1_cell_31 (fun v8 hd => ?_)
    refine v_goto (tgt := 36) X dX1_cell_32 (by decide) ?_
    exact v_loc [] rfl (v_at (P := fun (u4 : Int32) h => V K 3 h 36 [] [.int u4]) hd KJ)
def dkwX18_run_0 : List UInt8 := [3, 61, 28, 42, 180, 0, 9, 162, 0, 15, 43, 2, 182, 0, 15, 87, 132, 2, 1, 167, 255, 239, 3, 172]
abbrev dktX18_run_0 : List UInt8 := dkwX18_run_0 ++ []
theorem dksX18_run_0 : cX18_run.data.toList.drop 0 = dktX18_run_0 := by decide +kernel
theorem dX18_run_0 : decode cX18_run 0 = .ok (.iconst 0, 1) := dk_3 (dk_at dksX18_run_0 0 rfl rfl)
theorem dX18_run_1 : decode cX18_run 1 = .ok (.istore_n 2, 1) := dk_61 (dk_at dksX18_run_0 1 rfl rfl)
theorem dX18_run_2 : decode cX18_run 2 = .ok (.iload_n 2, 1) := dk_28 (dk_at dksX18_run_0 2 rfl rfl)
theorem dX18_run_3 : decode cX18_run 3 = .ok (.aload_n 0, 1) := dk_42 (dk_at dksX18_run_0 3 rfl rfl)
theorem dX18_run_4 : decode cX18_run 4 = .ok (.getfield 9, 3) := dk_180 0 9 (dk_at dksX18_run_0 4 rfl rfl)
theorem dX18_run_7 : decode cX18_run 7 = .ok (.if_icmp .ge 15, 3) := dk_162 0 15 (dk_at dksX18_run_0 7 rfl rfl)
theorem dX18_run_10 : decode cX18_run 10 = .ok (.aload_n 1, 1) := dk_43 (dk_at dksX18_run_0 10 rfl rfl)
theorem dX18_run_11 : decode cX18_run 11 = .ok (.iconst (-1), 1) := dk_2 (dk_at dksX18_run_0 11 rfl rfl)
theorem dX18_run_12 : decode cX18_run 12 = .ok (.invokevirtual 15, 3) := dk_182 0 15 (dk_at dksX18_run_0 12 rfl rfl)
theorem dX18_run_15 : decode cX18_run 15 = .ok (.pop, 1) := dk_87 (dk_at dksX18_run_0 15 rfl rfl)
theorem dX18_run_16 : decode cX18_run 16 = .ok (.iinc 2 1, 3) := dk_132 2 1 (dk_at dksX18_run_0 16 rfl rfl)
theorem dX18_run_19 : decode cX18_run 19 = .ok (.goto (-17), 3) := dk_167 255 239 (dk_at dksX18_run_0 19 rfl rfl)
theorem dX18_run_22 : decode cX18_run 22 = .ok (.iconst 0, 1) := dk_3 (dk_at dksX18_run_0 22 rfl rfl)
theorem dX18_run_23 : decode cX18_run 23 = .ok (.ireturn, 1) := dk_172 (dk_at dksX18_run_0 23 rfl rfl)
theorem fl_X18_9 : gFl "BitingDoors$Rest" 9 [14] 0 := by
  intro args s hts hN ci hc
  simp only [List.mem_cons, List.not_mem_nil, or_false] at hc
  subst hc
  exact ⟨RX18, TX18, 1, "BitingDoors$Rest", gCl_X18, in_X18, by decide, Or.inl (hts _ q1099), fun _ h => h⟩
theorem dn_X18_run : yX18_run.cls ≠ "java/lang/invoke/MethodHandle" ∧ yX18_run.cls ≠ "java/lang/invoke/VarHandle" ∧ (parseMethodDescriptor yX18_run.desc).map (fun d => d.parameters.length) = some 1 := by decide +kernel
noncomputable def M_X18_run (t : Nat) (p1 : Nat) : Mo Int32 := Mo.bind (chk [14] t) (fun _ => Mo.bind (Mo.loop (S := Int32) (E := Unit) (fun s1 => Mo.bind (gI [14] t 0) (fun v5 => if v5 ≤ s1 then Mo.pure (Sum.inr ()) else Mo.bind (M_X3_minute p1 (-1)) (fun v6 => Mo.lv (s1 + 1) (fun v7 => Mo.pure (Sum.inl v7))))) 0) (fun e4 => Mo.pure 0))
set_option maxHeartbeats 4000000 in
theorem ct_X18_run (G : gG) (t : Nat) (p1 : Nat) : gCt G yX18_run cX18_run 3 (some .int) 6 137 [.ref t, .ref p1] (M_X18_run t p1) (fun x : Int32 => some (.int x)) := by
  refine gCt.of (by decide) (Nat.le_of_ble_eq_true rfl) (fun K r hG X hd ho => ?_)
  subst hG
  have X : gX K cX18_run 3 "BitingDoors$Rest" "run" (some .int) 6 137 := X
  have hle : gLe (kh1 K) (kh1 K) := gLe.rf
  show V K 3 (kh0 K) 0 [(0, .ref t), (1, .ref p1)] []
  generalize kh0 K = h at hd ⊢
  unfold M_X18_run at hd
  obtain ⟨-, hd⟩ := chk_some hd
  refine v_iconst (v := 0) X dX18_run_0 (by decide) ?_
  refine v_istore_n (lv2 := [(2, .int 0), (0, .ref t), (1, .ref p1)]) X dX18_run_1 2 rfl (by decide) rfl ?_
  obtain ⟨e4, h1, hd, hd2⟩ := Mo.bind_some hd
  have KX : V K 3 h1 22 [] [] := by
    clear hd
    have hd := hd2
    refine v_iconst (v := 0) X dX18_run_22 (by decide) ?_
    exact v_iret X hd ho dX18_run_23
  have hle := (Mo.le hd2).tr hle
  clear hd2
  refine v_loc [1, 2, 0] rfl ?_
  refine loop_ind hd (fun (s1 : Int32) h => V K 3 h 2 [(0, .ref t), (1, .ref p1), (2, .int s1)] []) (fun s1 h x h2 hd hle0 ih2 ho3 => ?_)
  have hle := hle0.tr hle
  refine v_iload_n X dX18_run_2 2 2 rfl rfl ?_
  refine v_aload_n X dX18_run_3 0 0 rfl rfl ?_
  refine v_getI X hd fl_X18_9 dX18_run_4 (fun v5 hd => ?_)
  refine v_icmp_ge (tgt := 22) X dX18_run_7 (by decide) (fun q => ?_) (fun q => ?_)
  · have hd := ite_t q hd
    exact v_loc [] rfl (v_at (P := fun (e4 : Unit) h => V K 3 h 22 [] []) (lp_out hd ho3) KX)
  · have hd := ite_f q hd
    refine v_aload_n X dX18_run_10 1 1 rfl rfl ?_
    refine v_iconst (v := (-1)) X dX18_run_11 (by decide) ?_
    refine v_callV X hd hle (ct_X3_minute _ p1 (-1)) gCl_X3 (lw_V q1381 q1298 q1299 q113 q1300) ⟨rfl, dn_X3_minute⟩ rfl ⟨by decide, by decide⟩ rfl (Nat.le_of_ble_eq_true rfl) dX18_run_12 (fun v6 h hd => ?_)
    show V K 3 h 15 [(0, .ref t), (1, .ref p1), (2, .int s1)] [.int v6]
    refine v_pop X dX18_run_15 rfl ?_
    refine v_iincL (lv2 := fun v7 => [(2, .int v7), (0, .ref t), (1, .ref p1)]) X hd dX18_run_16 2 rfl (by decide : Int32.ofInt 1 = 1) (by decide) (fun v7 => rfl) (fun v7 hd => ?_)
    refine v_goto (tgt := 2) X dX18_run_19 (by decide) ?_
    exact v_loc [1, 2, 0] rfl (lp_in (P := fun (s1 : Int32) h => V K 3 h 2 [(0, .ref t), (1, .ref p1), (2, .int s1)] []) hd ih2)
