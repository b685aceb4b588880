set_option maxRecDepth 100000
def dkwX1_fit_1 : List UInt8 := [28, 182, 1, 58, 153, 0, 7, 4, 167, 0, 4, 3, 172]
abbrev dktX1_fit_1 : List UInt8 := dkwX1_fit_1 ++ []
def dkwX1_fit_0 : List UInt8 := [42, 27, 182, 1, 7, 153, 0, 10, 28, 184, 1, 42, 154, 0, 7, 2, 167, 0, 20, 42, 27, 182, 1, 15]
abbrev dktX1_fit_0 : List UInt8 := dkwX1_fit_0 ++ dktX1_fit_1
theorem dksX1_fit_0 : cX1_fit.data.toList.drop 0 = dktX1_fit_0 := by decide +kernel
theorem dksX1_fit_1 : cX1_fit.data.toList.drop 24 = dktX1_fit_1 := dk_seg dksX1_fit_0 24 rfl rfl
theorem dX1_fit_0 : decode cX1_fit 0 = .ok (.aload_n 0, 1) := dk_42 (dk_at dksX1_fit_0 0 rfl rfl)
theorem dX1_fit_1 : decode cX1_fit 1 = .ok (.iload_n 1, 1) := dk_27 (dk_at dksX1_fit_0 1 rfl rfl)
theorem dX1_fit_2 : decode cX1_fit 2 = .ok (.invokevirtual 263, 3) := dk_182 1 7 (dk_at dksX1_fit_0 2 rfl rfl)
theorem dX1_fit_5 : decode cX1_fit 5 = .ok (.ifCond .eq 10, 3) := dk_153 0 10 (dk_at dksX1_fit_0 5 rfl rfl)
theorem dX1_fit_8 : decode cX1_fit 8 = .ok (.iload_n 2, 1) := dk_28 (dk_at dksX1_fit_0 8 rfl rfl)
theorem dX1_fit_9 : decode cX1_fit 9 = .ok (.invokestatic 298, 3) := dk_184 1 42 (dk_at dksX1_fit_0 9 rfl rfl)
theorem dX1_fit_12 : decode cX1_fit 12 = .ok (.ifCond .ne 7, 3) := dk_154 0 7 (dk_at dksX1_fit_0 12 rfl rfl)
theorem dX1_fit_15 : decode cX1_fit 15 = .ok (.iconst (-1), 1) := dk_2 (dk_at dksX1_fit_0 15 rfl rfl)
theorem dX1_fit_16 : decode cX1_fit 16 = .ok (.goto 20, 3) := dk_167 0 20 (dk_at dksX1_fit_0 16 rfl rfl)
theorem dX1_fit_19 : decode cX1_fit 19 = .ok (.aload_n 0, 1) := dk_42 (dk_at dksX1_fit_0 19 rfl rfl)
theorem dX1_fit_20 : decode cX1_fit 20 = .ok (.iload_n 1, 1) := dk_27 (dk_at dksX1_fit_0 20 rfl rfl)
theorem dX1_fit_21 : decode cX1_fit 21 = .ok (.invokevirtual 271, 3) := dk_182 1 15 (dk_at dksX1_fit_0 21 rfl rfl)
theorem dX1_fit_24 : decode cX1_fit 24 = .ok (.iload_n 2, 1) := dk_28 (dk_at dksX1_fit_1 0 rfl rfl)
theorem dX1_fit_25 : decode cX1_fit 25 = .ok (.invokevirtual 314, 3) := dk_182 1 58 (dk_at dksX1_fit_1 1 rfl rfl)
theorem dX1_fit_28 : decode cX1_fit 28 = .ok (.ifCond .eq 7, 3) := dk_153 0 7 (dk_at dksX1_fit_1 4 rfl rfl)
theorem dX1_fit_31 : decode cX1_fit 31 = .ok (.iconst 1, 1) := dk_4 (dk_at dksX1_fit_1 7 rfl rfl)
theorem dX1_fit_32 : decode cX1_fit 32 = .ok (.goto 4, 3) := dk_167 0 4 (dk_at dksX1_fit_1 8 rfl rfl)
theorem dX1_fit_35 : decode cX1_fit 35 = .ok (.iconst 0, 1) := dk_3 (dk_at dksX1_fit_1 11 rfl rfl)
theorem dX1_fit_36 : decode cX1_fit 36 = .ok (.ireturn, 1) := dk_172 (dk_at dksX1_fit_1 12 rfl rfl)
theorem dn_X1_fit : yX1_fit.cls ≠ "java/lang/invoke/MethodHandle" ∧ yX1_fit.cls ≠ "java/lang/invoke/VarHandle" ∧ (parseMethodDescriptor yX1_fit.desc).map (fun d => d.parameters.length) = some 2 := by decide +kernel
noncomputable def M_X1_fit (t : Nat) (p1 : Int32) (p2 : Int32) : Mo Int32 := Mo.bind (chk [0] t) (fun _ => Mo.bind (M_X1_isDoor t p1) (fun v1 => Mo.bind ((cond v1 (Mo.bind (M_X1_isHanging p2) (fun v3 => cond v3 (Mo.bind (M_X1_at t p1) (fun v4 => Mo.bind (M_X11_isFit v4 p2) (fun v5 => cond v5 (Mo.pure 1) (Mo.pure 0)))) (Mo.pure (-1)))) (Mo.pure (-1)) : Mo (Int32))) (fun u2 => Mo.pure u2)))
set_option maxHeartbeats 4000000 in
theorem ct_X1_fit (G : gG) (t : Nat) (p1 : Int32) (p2 : Int32) : gCt G yX1_fit cX1_fit 3 (some .int) 3 64 [.ref t, .int p1, .int p2] (M_X1_fit t p1 p2) (fun x : Int32 => some (.int x)) := by
  refine gCt.of (by decide) (Nat.le_of_ble_eq_true rfl) (fun K r hG X hd ho => ?_)
  subst hG
  have X : gX K cX1_fit 3 "BitingDoors" "fit" (some .int) 3 64 := X
  have hle : gLe (kh1 K) (kh1 K) := gLe.rf
  show V K 3 (kh0 K) 0 [(0, .ref t), (1, .int p1), (2, .int p2)] []
  generalize kh0 K = h at hd ⊢
  unfold M_X1_fit at hd
  obtain ⟨-, hd⟩ := chk_some hd
  refine v_aload_n X dX1_fit_0 0 0 rfl rfl ?_
  refine v_iload_n X dX1_fit_1 1 1 rfl rfl ?_
  refine v_callV X hd hle (ct_X1_isDoor _ t p1) gCl_X1 (lw_V q1115 q1117 qs12 q109 q1118) ⟨rfl, dn_X1_isDoor⟩ rfl ⟨by decide, by decide⟩ rfl (Nat.le_of_ble_eq_true rfl) dX1_fit_2 (fun v1 h hd => ?_)
  show V K 3 h 5 [(0, .ref t), (1, .int p1), (2, .int p2)] [.int (b2i v1)]
  obtain ⟨u2, h1, hd, hd2⟩ := Mo.bind_some hd
  have KJ : V K 3 h1 36 [] [.int u2] := by
    clear hd
    have hd := hd2
    exact v_iret X hd ho dX1_fit_36
  have hle := (Mo.le hd2).tr hle
  clear hd2
  refine v_ifZ_eq (tgt := 15) X dX1_fit_5 (by decide) (fun q => ?_) (fun q => ?_)
  · have hd := cnd_f q hd
    refine v_iconst (v := (-1)) X dX1_fit_15 (by decide) ?_
    refine v_goto (tgt := 36) X dX1_fit_16 (by decide) ?_
    exact v_loc [] rfl (v_at (P := fun (u2 : Int32) h => V K 3 h 36 [] [.int u2]) hd KJ)
  · have hd := cnd_t q hd
    refine v_iload_n X dX1_fit_8 2 2 rfl rfl ?_
    refine v_callS X hd hle (ct_X1_isHanging _ p2) (lw_S q1120 q1121 q109 q1122) dn_X1_isHanging rfl ⟨by decide, by decide⟩ rfl (Nat.le_of_ble_eq_true rfl) dX1_fit_9 (fun v3 h hd => ?_)
    show V K 3 h 12 [(0, .ref t), (1, .int p1), (2, .int p2)] [.int (b2i v3)]
    refine v_ifZ_ne (tgt := 19) X dX1_fit_12 (by decide) (fun q => ?_) (fun q => ?_)
    · have hd := cnd_t q hd
      refine v_aload_n X dX1_fit_19 0 0 rfl rfl ?_
      refine v_iload_n X dX1_fit_20 1 1 rfl rfl ?_
      refine v_callV X hd hle (ct_X1_at _ t p1) gCl_X1 (lw_V q1123 q1125 qs13 q109 q1126) ⟨rfl, dn_X1_at⟩ rfl ⟨by decide, by decide⟩ rfl (Nat.le_of_ble_eq_true rfl) dX1_fit_21 (fun v4 h hd => ?_)
      show V K 3 h 24 [(0, .ref t), (1, .int p1), (2, .int p2)] [.ref v4]
      refine v_iload_n X dX1_fit_24 2 2 rfl rfl ?_
      refine v_callV X hd hle (ct_X11_isFit _ v4 p2) gCl_X11 (lw_V q1137 q1138 q1139 q125 q1140) ⟨rfl, dn_X11_isFit⟩ rfl ⟨by decide, by decide⟩ rfl (Nat.le_of_ble_eq_true rfl) dX1_fit_25 (fun v5 h hd => ?_)
      show V K 3 h 28 [(0, .ref t), (1, .int p1), (2, .int p2)] [.int (b2i v5)]
      refine v_ifZ_eq (tgt := 35) X dX1_fit_28 (by decide) (fun q => ?_) (fun q => ?_)
      · have hd := cnd_f q hd
        refine v_iconst (v := 0) X dX1_fit_35 (by decide) ?_
        exact v_loc [] rfl (v_at (P := fun (u2 : Int32) h => V K 3 h 36 [] [.int u2]) hd KJ)
      · have hd := cnd_t q hd
        refine v_iconst (v := 1) X dX1_fit_31 (by decide) ?_
        refine v_goto (tgt := 36) X dX1_fit_32 (by decide) ?_
        exact v_loc [] rfl (v_at (P := fun (u2 : Int32) h => V K 3 h 36 [] [.int u2]) hd KJ)
    · have hd := cnd_f q hd
      refine v_iconst (v := (-1)) X dX1_fit_15 (by decide) ?_
      refine v_goto (tgt := 36) X dX1_fit_16 (by decide) ?_
      exact v_loc [] rfl (v_at (P := fun (u2 : Int32) h => V K 3 h 36 [] [.int u2]) hd KJ)
def dkwX11_init_2 : List UInt8 := [181, 0, 35, 42, 21, 5, 181, 0, 38, 42, 21, 6, 181, 0, 42, 177]
abbrev dktX11_init_2 : List UInt8 := dkwX11_init_2 ++ []
def dkwX11_init_1 : List UInt8 := [188, 10, 181, 0, 20, 42, 4, 181, 0, 24, 42, 31, 181, 0, 28, 42, 29, 181, 0, 32, 42, 21, 4]
abbrev dktX11_init_1 : List UInt8 := dkwX11_init_1 ++ dktX11_init_2
def dkwX11_init_0 : List UInt8 := [42, 183, 0, 3, 42, 16, 12, 189, 0, 9, 181, 0, 11, 42, 7, 189, 0, 9, 181, 0, 17, 42, 7]
abbrev dktX11_init_0 : List UInt8 := dkwX11_init_0 ++ dktX11_init_1
theorem dksX11_init_0 : cX11_init.data.toList.drop 0 = dktX11_init_0 := by decide +kernel
theorem dksX11_init_1 : cX11_init.data.toList.drop 23 = dktX11_init_1 := dk_seg dksX11_init_0 23 rfl rfl
theorem dksX11_init_2 : cX11_init.data.toList.drop 46 = dktX11_init_2 := dk_seg dksX11_init_1 23 rfl rfl
theorem dX11_init_0 : decode cX11_init 0 = .ok (.aload_n 0, 1) := dk_42 (dk_at dksX11_init_0 0 rfl rfl)
theorem dX11_init_1 : decode cX11_init 1 = .ok (.invokespecial 3, 3) := dk_183 0 3 (dk_at dksX11_init_0 1 rfl rfl)
theorem dX11_init_4 : decode cX11_init 4 = .ok (.aload_n 0, 1) := dk_42 (dk_at dksX11_init_0 4 rfl rfl)
theorem dX11_init_5 : decode cX11_init 5 = .ok (.bipush 12, 2) := dk_16 12 (dk_at dksX11_init_0 5 rfl rfl)
theorem dX11_init_7 : decode cX11_init 7 = .ok (.anewarray 9, 3) := dk_189 0 9 (dk_at dksX11_init_0 7 rfl rfl)
theorem dX11_init_10 : decode cX11_init 10 = .ok (.putfield 11, 3) := dk_181 0 11 (dk_at dksX11_init_0 10 rfl rfl)
theorem dX11_init_13 : decode cX11_init 13 = .ok (.aload_n 0, 1) := dk_42 (dk_at dksX11_init_0 13 rfl rfl)
theorem dX11_init_14 : decode cX11_init 14 = .ok (.iconst 4, 1) := dk_7 (dk_at dksX11_init_0 14 rfl rfl)
theorem dX11_init_15 : decode cX11_init 15 = .ok (.anewarray 9, 3) := dk_189 0 9 (dk_at dksX11_init_0 15 rfl rfl)
theorem dX11_init_18 : decode cX11_init 18 = .ok (.putfield 17, 3) := dk_181 0 17 (dk_at dksX11_init_0 18 rfl rfl)
theorem dX11_init_21 : decode cX11_init 21 = .ok (.aload_n 0, 1) := dk_42 (dk_at dksX11_init_0 21 rfl rfl)
theorem dX11_init_22 : decode cX11_init 22 = .ok (.iconst 4, 1) := dk_7 (dk_at dksX11_init_0 22 rfl rfl)
theorem dX11_init_23 : decode cX11_init 23 = .ok (.newarray .int, 2) := dk_188_10 (dk_at dksX11_init_1 0 rfl rfl)
theorem dX11_init_25 : decode cX11_init 25 = .ok (.putfield 20, 3) := dk_181 0 20 (dk_at dksX11_init_1 2 rfl rfl)
theorem dX11_init_28 : decode cX11_init 28 = .ok (.aload_n 0, 1) := dk_42 (dk_at dksX11_init_1 5 rfl rfl)
theorem dX11_init_29 : decode cX11_init 29 = .ok (.iconst 1, 1) := dk_4 (dk_at dksX11_init_1 6 rfl rfl)
theorem dX11_init_30 : decode cX11_init 30 = .ok (.putfield 24, 3) := dk_181 0 24 (dk_at dksX11_init_1 7 rfl rfl)
theorem dX11_init_33 : decode cX11_init 33 = .ok (.aload_n 0, 1) := dk_42 (dk_at dksX11_init_1 10 rfl rfl)
theorem dX11_init_34 : decode cX11_init 34 = .ok (.lload_n 1, 1) := dk_31 (dk_at dksX11_init_1 11 rfl rfl)
theorem dX11_init_35 : decode cX11_init 35 = .ok (.putfield 28, 3) := dk_181 0 28 (dk_at dksX11_init_1 12 rfl rfl)
theorem dX11_init_38 : decode cX11_init 38 = .ok (.aload_n 0, 1) := dk_42 (dk_at dksX11_init_1 15 rfl rfl)
theorem dX11_init_39 : decode cX11_init 39 = .ok (.iload_n 3, 1) := dk_29 (dk_at dksX11_init_1 16 rfl rfl)
theorem dX11_init_40 : decode cX11_init 40 = .ok (.putfield 32, 3) := dk_181 0 32 (dk_at dksX11_init_1 17 rfl rfl)
theorem dX11_init_43 : decode cX11_init 43 = .ok (.aload_n 0, 1) := dk_42 (dk_at dksX11_init_1 20 rfl rfl)
theorem dX11_init_44 : decode cX11_init 44 = .ok (.iload 4, 2) := dk_21 4 (dk_at dksX11_init_1 21 rfl rfl)
theorem dX11_init_46 : decode cX11_init 46 = .ok (.putfield 35, 3) := dk_181 0 35 (dk_at dksX11_init_2 0 rfl rfl)
theorem dX11_init_49 : decode cX11_init 49 = .ok (.aload_n 0, 1) := dk_42 (dk_at dksX11_init_2 3 rfl rfl)
theorem dX11_init_50 : decode cX11_init 50 = .ok (.iload 5, 2) := dk_21 5 (dk_at dksX11_init_2 4 rfl rfl)
theorem dX11_init_52 : decode cX11_init 52 = .ok (.putfield 38, 3) := dk_181 0 38 (dk_at dksX11_init_2 6 rfl rfl)
theorem dX11_init_55 : decode cX11_init 55 = .ok (.aload_n 0, 1) := dk_42 (dk_at dksX11_init_2 9 rfl rfl)
theorem dX11_init_56 : decode cX11_init 56 = .ok (.iload 6, 2) := dk_21 6 (dk_at dksX11_init_2 10 rfl rfl)
theorem dX11_init_58 : decode cX11_init 58 = .ok (.putfield 42, 3) := dk_181 0 42 (dk_at dksX11_init_2 12 rfl rfl)
theorem dX11_init_61 : decode cX11_init 61 = .ok (.return_, 1) := dk_177 (dk_at dksX11_init_2 15 rfl rfl)
theorem fp_X11_11_i : gFp "BitingDoors$Door" "<init>" 11 [9] 5 (.array (.object "BitingDoors$Cells")) := by
  intro args s hts hN ci hc
  simp only [List.mem_cons, List.not_mem_nil, or_false] at hc
  subst hc
  exact ⟨RX11, TX11, 12, "BitingDoors$Door", gCl_X11, in_X11, by decide, Or.inr ⟨rfl, rfl, rfl, gFin hts in_X11 (k := 5) (by decide) rfl, hts _ q850⟩, fun _ h => h, rfl, fun D tys hK => gap_X11 hts hK⟩
theorem fp_X11_17_i : gFp "BitingDoors$Door" "<init>" 17 [9] 6 (.array (.object "BitingDoors$Cells")) := by
  intro args s hts hN ci hc
  simp only [List.mem_cons, List.not_mem_nil, or_false] at hc
  subst hc
  exact ⟨RX11, TX11, 12, "BitingDoors$Door", gCl_X11, in_X11, by decide, Or.inr ⟨rfl, rfl, rfl, gFin hts in_X11 (k := 6) (by decide) rfl, hts _ q851⟩, fun _ h => h, rfl, fun D tys hK => gap_X11 hts hK⟩
theorem fp_X11_20_i : gFp "BitingDoors$Door" "<init>" 20 [9] 7 (.array .int) := by
  intro args s hts hN ci hc
  simp only [List.mem_cons, List.not_mem_nil, or_false] at hc
  subst hc
  exact ⟨RX11, TX11, 12, "BitingDoors$Door", gCl_X11, in_X11, by decide, Or.inr ⟨rfl, rfl, rfl, gFin hts in_X11 (k := 7) (by decide) rfl, hts _ q855⟩, fun _ h => h, rfl, fun D tys hK => gap_X11 hts hK⟩
theorem fp_X11_24_i : gFp "BitingDoors$Door" "<init>" 24 [9] 10 .int := by
  intro args s hts hN ci hc
  simp only [List.mem_cons, List.not_mem_nil, or_false] at hc
  subst hc
  exact ⟨RX11, TX11, 12, "BitingDoors$Door", gCl_X11, in_X11, by decide, Or.inl ⟨rfl, Or.inl (hts _ q862)⟩, fun _ h => h, rfl, fun D tys hK => gap_X11 hts hK⟩
theorem fp_X11_28_i : gFp "BitingDoors$Door" "<init>" 28 [9] 0 .long := by
  intro args s hts hN ci hc
  simp only [List.mem_cons, List.not_mem_nil, or_false] at hc
  subst hc
  exact ⟨RX11, TX11, 12, "BitingDoors$Door", gCl_X11, in_X11, by decide, Or.inr ⟨rfl, rfl, rfl, gFin hts in_X11 (k := 0) (by decide) rfl, hts _ q839⟩, fun _ h => h, rfl, fun D tys hK => gap_X11 hts hK⟩
theorem fp_X11_32_i : gFp "BitingDoors$Door" "<init>" 32 [9] 1 .int := by
  intro args s hts hN ci hc
  simp only [List.mem_cons, List.not_mem_nil, or_false] at hc
  subst hc
  exact ⟨RX11, TX11, 12, "BitingDoors$Door", gCl_X11, in_X11, by decide, Or.inr ⟨rfl, rfl, rfl, gFin hts in_X11 (k := 1) (by decide) rfl, hts _ q841⟩, fun _ h => h, rfl, fun D tys hK => gap_X11 hts hK⟩
theorem fp_X11_35_i : gFp "BitingDoors$Door" "<init>" 35 [9] 2 .int := by
  intro args s hts hN ci hc
  simp only [List.mem_cons, List.not_mem_nil, or_false] at hc
  subst hc
  exact ⟨RX11, TX11, 12, "BitingDoors$Door", gCl_X11, in_X11, by decide, Or.inr ⟨rfl, rfl, rfl, gFin hts in_X11 (k := 2) (by decide) rfl, hts _ q843⟩, fun _ h => h, rfl, fun D tys hK => gap_X11 hts hK⟩
theorem fp_X11_38_i : gFp "BitingDoors$Door" "<init>" 38 [9] 4 .boolean := by
  intro args s hts hN ci hc
  simp only [List.mem_cons, List.not_mem_nil, or_false] at hc
  subst hc
  exact ⟨RX11, TX11, 12, "BitingDoors$Door", gCl_X11, in_X11, by decide, Or.inr ⟨rfl, rfl, rfl, gFin hts in_X11 (k := 4) (by decide) rfl, hts _ q848⟩, fun _ h => h, rfl, fun D tys hK => gap_X11 hts hK⟩
theorem fp_X11_42_i : gFp "BitingDoors$Door" "<init>" 42 [9] 3 .int := by
  intro args s hts hN ci hc
  simp only [List.mem_cons, List.not_mem_nil, or_false] at hc
  subst hc
  exact ⟨RX11, TX11, 12, "BitingDoors$Door", gCl_X11, in_X11, by decide, Or.inr ⟨rfl, rfl, rfl, gFin hts in_X11 (k := 3) (by decide) rfl, hts _ q845⟩, fun _ h => h, rfl, fun D tys hK => gap_X11 hts hK⟩
theorem dn_X11_init : yX11_init.cls ≠ "java/lang/invoke/MethodHandle" ∧ yX11_init.cls ≠ "java/lang/invoke/VarHandle" ∧ (parseMethodDescriptor yX11_init.desc).map (fun d => d.parameters.length) = some 5 := by decide +kernel
noncomputable def M_X11_init (t : Nat) (p1 : Int64) (p2 : Int32) (p3 : Int32) (p4 : Bool) (p5 : Int32) : Mo Unit := Mo.bind (nwR 4 12) (fun q1 => Mo.bind (pF [9] t 5 (.ref q1)) (fun _ => Mo.bind (nwR 4 4) (fun q2 => Mo.bind (pF [9] t 6 (.ref q2)) (fun _ => Mo.bind (nwI 0 4) (fun q3 => Mo.bind (pF [9] t 7 (.ref q3)) (fun _ => Mo.bind (pF [9] t 10 (.int 1)) (fun _ => Mo.bind (pF [9] t 0 (.long p1)) (fun _ => Mo.bind (pF [9] t 1 (.int p2)) (fun _ => Mo.bind (pF [9] t 2 (.int p3)) (fun _ => Mo.bind (pF [9] t 4 (.int (b2i p4))) (fun _ => Mo.bind (pF [9] t 3 (.int p5)) (fun _ => Mo.pure ()))))))))))))
set_option maxHeartbeats 4000000 in
theorem ct_X11_init (G : gG) (t : Nat) (p1 : Int64) (p2 : Int32) (p3 : Int32) (p4 : Bool) (p5 : Int32) : gCt G yX11_init cX11_init 7 none 1 20 [.ref t, .long p1, .int p2, .int p3, .int (b2i p4), .int p5] (M_X11_init t p1 p2 p3 p4 p5) (fun _ : Unit => none) := by
  refine gCt.of (by decide) (Nat.le_of_ble_eq_true rfl) (fun K r hG X hd ho => ?_)
  subst hG
  have X : gX K cX11_init 7 "BitingDoors$Door" "<init>" none 1 20 := X
  have hle : gLe (kh1 K) (kh1 K) := gLe.rf
  show V K 7 (kh0 K) 0 [(0, .ref t), (1, .long p1), (3, .int p2), (4, .int p3), (5, .int (b2i p4)), (6, .int p5)] []
  generalize kh0 K = h at hd ⊢
  unfold M_X11_init at hd
  refine v_aload_n X dX11_init_0 0 0 rfl rfl ?_
  refine v_objInit X q836 q152 q153 (Nat.le_of_ble_eq_true rfl) dX11_init_1 (by decide) (by decide) ?_
  refine v_aload_n X dX11_init_4 0 0 rfl rfl ?_
  refine v_bipush (v := 12) X dX11_init_5 (by decide) ?_
  refine v_newR X hd hle 4 rfl q837 (by decide) dX11_init_7 (fun q1 h hd => ?_)
  refine v_put (v := .ref q1) X hd fp_X11_11_i rfl rfl dX11_init_10 (fun h hd => ?_)
  refine v_aload_n X dX11_init_13 0 0 rfl rfl ?_
  refine v_iconst (v := 4) X dX11_init_14 (by decide) ?_
  refine v_newR X hd hle 4 rfl q837 (by decide) dX11_init_15 (fun q2 h hd => ?_)
  refine v_put (v := .ref q2) X hd fp_X11_17_i rfl rfl dX11_init_18 (fun h hd => ?_)
  refine v_aload_n X dX11_init_21 0 0 rfl rfl ?_
  refine v_iconst (v := 4) X dX11_init_22 (by decide) ?_
  refine v_newI X hd hle 0 rfl rfl rfl (fun _ z => by cases z) (by decide) q317 dX11_init_23 (fun q3 h hd => ?_)
  refine v_put (v := .ref q3) X hd fp_X11_20_i rfl rfl dX11_init_25 (fun h hd => ?_)
  refine v_aload_n X dX11_init_28 0 0 rfl rfl ?_
  refine v_iconst (v := 1) X dX11_init_29 (by decide) ?_
  refine v_put (v := .int 1) X hd fp_X11_24_i rfl rfl dX11_init_30 (fun h hd => ?_)
  refine v_aload_n X dX11_init_33 0 0 rfl rfl ?_
  refine v_lload_n X dX11_init_34 1 1 rfl rfl ?_
  refine v_put (v := .long p1) X hd fp_X11_28_i rfl rfl dX11_init_35 (fun h hd => ?_)
  refine v_aload_n X dX11_init_38 0 0 rfl rfl ?_
  refine v_iload_n X dX11_init_39 2 3 rfl rfl ?_
  refine v_put (v := .int p2) X hd fp_X11_32_i rfl rfl dX11_init_40 (fun h hd => ?_)
  refine v_aload_n X dX11_init_43 0 0 rfl rfl ?_
  refine v_iload X dX11_init_44 3 rfl ?_
  refine v_put (v := .int p3) X hd fp_X11_35_i rfl rfl dX11_init_46 (fun h hd => ?_)
  refine v_aload_n X dX11_init_49 0 0 rfl rfl ?_
  refine v_iload X dX11_init_50 4 rfl ?_
  refine v_put (v := .int (b2i p4)) X hd fp_X11_38_i (b2i_nar _) (fits_b2i _) dX11_init_52 (fun h hd => ?_)
  refine v_aload_n X dX11_init_55 0 0 rfl rfl ?_
  refine v_iload X dX11_init_56 5 rfl ?_
  refine v_put (v := .int p5) X hd fp_X11_42_i rfl rfl dX11_init_58 (fun h hd => ?_)
  exact v_vret X hd ho dX11_init_61
def dkwX7_isWay_4 : List UInt8 := [5, 160, 0, 5, 3, 172, 132, 6, 1, 167, 255, 156, 4, 172]
abbrev dktX7_isWay_4 : List UInt8 := dkwX7_isWay_4 ++ []
def dkwX7_isWay_3 : List UInt8 := [54, 9, 21, 5, 153, 0, 13, 21, 9, 16, 10, 161, 0, 19, 167, 0, 14, 21, 9, 153, 0, 9, 21, 9]
abbrev dktX7_isWay_3 : List UInt8 := dkwX7_isWay_3 ++ dktX7_isWay_4
def dkwX7_isWay_2 : List UInt8 := [182, 0, 162, 154, 0, 5, 3, 172, 42, 180, 0, 15, 180, 0, 85, 16, 10, 21, 8, 104, 21, 7, 96, 46]
abbrev dktX7_isWay_2 : List UInt8 := dkwX7_isWay_2 ++ dktX7_isWay_3
def dkwX7_isWay_1 : List UInt8 := [29, 153, 0, 10, 28, 21, 6, 96, 167, 0, 4, 28, 54, 8, 42, 180, 0, 15, 21, 7, 21, 8]
abbrev dktX7_isWay_1 : List UInt8 := dkwX7_isWay_1 ++ dktX7_isWay_2
def dkwX7_isWay_0 : List UInt8 := [3, 54, 6, 21, 6, 21, 4, 162, 0, 99, 29, 153, 0, 7, 27, 167, 0, 7, 27, 21, 6, 96, 54, 7]
abbrev dktX7_isWay_0 : List UInt8 := dkwX7_isWay_0 ++ dktX7_isWay_1
theorem dksX7_isWay_0 : cX7_isWay.data.toList.drop 0 = dktX7_isWay_0 := by decide +kernel
theorem dksX7_isWay_1 : cX7_isWay.data.toList.drop 24 = dktX7_isWay_1 := dk_seg dksX7_isWay_0 24 rfl rfl
theorem dksX7_isWay_2 : cX7_isWay.data.toList.drop 46 = dktX7_isWay_2 := dk_seg dksX7_isWay_1 22 rfl rfl
theorem dksX7_isWay_3 : cX7_isWay.data.toList.drop 70 = dktX7_isWay_3 := dk_seg dksX7_isWay_2 24 rfl rfl
theorem dksX7_isWay_4 : cX7_isWay.data.toList.drop 94 = dktX7_isWay_4 := dk_seg dksX7_isWay_3 24 rfl rfl
theorem dX7_isWay_0 : decode cX7_isWay 0 = .ok (.iconst 0, 1) := dk_3 (dk_at dksX7_isWay_0 0 rfl rfl)
theorem dX7_isWay_1 : decode cX7_isWay 1 = .ok (.istore 6, 2) := dk_54 6 (dk_at dksX7_isWay_0 1 rfl rfl)
theorem dX7_isWay_3 : decode cX7_isWay 3 = .ok (.iload 6, 2) := dk_21 6 (dk_at dksX7_isWay_0 3 rfl rfl)
theorem dX7_isWay_5 : decode cX7_isWay 5 = .ok (.iload 4, 2) := dk_21 4 (dk_at dksX7_isWay_0 5 rfl rfl)
theorem dX7_isWay_7 : decode cX7_isWay 7 = .ok (.if_icmp .ge 99, 3) := dk_162 0 99 (dk_at dksX7_isWay_0 7 rfl rfl)
theorem dX7_isWay_10 : decode cX7_isWay 10 = .ok (.iload_n 3, 1) := dk_29 (dk_at dksX7_isWay_0 10 rfl rfl)
theorem dX7_isWay_11 : decode cX7_isWay 11 = .ok (.ifCond .eq 7, 3) := dk_153 0 7 (dk_at dksX7_isWay_0 11 rfl rfl)
theorem dX7_isWay_14 : decode cX7_isWay 14 = .ok (.iload_n 1, 1) := dk_27 (dk_at dksX7_isWay_0 14 rfl rfl)
theorem dX7_isWay_15 : decode cX7_isWay 15 = .ok (.goto 7, 3) := dk_167 0 7 (dk_at dksX7_isWay_0 15 rfl rfl)
theorem dX7_isWay_18 : decode cX7_isWay 18 = .ok (.iload_n 1, 1) := dk_27 (dk_at dksX7_isWay_0 18 rfl rfl)
theorem dX7_isWay_19 : decode cX7_isWay 19 = .ok (.iload 6, 2) := dk_21 6 (dk_at dksX7_isWay_0 19 rfl rfl)
theorem dX7_isWay_21 : decode cX7_isWay 21 = .ok (.iadd, 1) := dk_96 (dk_at dksX7_isWay_0 21 rfl rfl)
theorem dX7_isWay_22 : decode cX7_isWay 22 = .ok (.istore 7, 2) := dk_54 7 (dk_at dksX7_isWay_0 22 rfl rfl)
theorem dX7_isWay_24 : decode cX7_isWay 24 = .ok (.iload_n 3, 1) := dk_29 (dk_at dksX7_isWay_1 0 rfl rfl)
theorem dX7_isWay_25 : decode cX7_isWay 25 = .ok (.ifCond .eq 10, 3) := dk_153 0 10 (dk_at dksX7_isWay_1 1 rfl rfl)
theorem dX7_isWay_28 : decode cX7_isWay 28 = .ok (.iload_n 2, 1) := dk_28 (dk_at dksX7_isWay_1 4 rfl rfl)
theorem dX7_isWay_29 : decode cX7_isWay 29 = .ok (.iload 6, 2) := dk_21 6 (dk_at dksX7_isWay_1 5 rfl rfl)
theorem dX7_isWay_31 : decode cX7_isWay 31 = .ok (.iadd, 1) := dk_96 (dk_at dksX7_isWay_1 7 rfl rfl)
theorem dX7_isWay_32 : decode cX7_isWay 32 = .ok (.goto 4, 3) := dk_167 0 4 (dk_at dksX7_isWay_1 8 rfl rfl)
theorem dX7_isWay_35 : decode cX7_isWay 35 = .ok (.iload_n 2, 1) := dk_28 (dk_at dksX7_isWay_1 11 rfl rfl)
theorem dX7_isWay_36 : decode cX7_isWay 36 = .ok (.istore 8, 2) := dk_54 8 (dk_at dksX7_isWay_1 12 rfl rfl)
theorem dX7_isWay_38 : decode cX7_isWay 38 = .ok (.aload_n 0, 1) := dk_42 (dk_at dksX7_isWay_1 14 rfl rfl)
theorem dX7_isWay_39 : decode cX7_isWay 39 = .ok (.getfield 15, 3) := dk_180 0 15 (dk_at dksX7_isWay_1 15 rfl rfl)
theorem dX7_isWay_42 : decode cX7_isWay 42 = .ok (.iload 7, 2) := dk_21 7 (dk_at dksX7_isWay_1 18 rfl rfl)
theorem dX7_isWay_44 : decode cX7_isWay 44 = .ok (.iload 8, 2) := dk_21 8 (dk_at dksX7_isWay_1 20 rfl rfl)
theorem dX7_isWay_46 : decode cX7_isWay 46 = .ok (.invokevirtual 162, 3) := dk_182 0 162 (dk_at dksX7_isWay_2 0 rfl rfl)
theorem dX7_isWay_49 : decode cX7_isWay 49 = .ok (.ifCond .ne 5, 3) := dk_154 0 5 (dk_at dksX7_isWay_2 3 rfl rfl)
theorem dX7_isWay_52 : decode cX7_isWay 52 = .ok (.iconst 0, 1) := dk_3 (dk_at dksX7_isWay_2 6 rfl rfl)
theorem dX7_isWay_53 : decode cX7_isWay 53 = .ok (.ireturn, 1) := dk_172 (dk_at dksX7_isWay_2 7 rfl rfl)
theorem dX7_isWay_54 : decode cX7_isWay 54 = .ok (.aload_n 0, 1) := dk_42 (dk_at dksX7_isWay_2 8 rfl rfl)
theorem dX7_isWay_55 : decode cX7_isWay 55 = .ok (.getfield 15, 3) := dk_180 0 15 (dk_at dksX7_isWay_2 9 rfl rfl)
theorem dX7_isWay_58 : decode cX7_isWay 58 = .ok (.getfield 85, 3) := dk_180 0 85 (dk_at dksX7_isWay_2 12 rfl rfl)
theorem dX7_isWay_61 : decode cX7_isWay 61 = .ok (.bipush 10, 2) := dk_16 10 (dk_at dksX7_isWay_2 15 rfl rfl)
theorem dX7_isWay_63 : decode cX7_isWay 63 = .ok (.iload 8, 2) := dk_21 8 (dk_at dksX7_isWay_2 17 rfl rfl)
theorem dX7_isWay_65 : decode cX7_isWay 65 = .ok (.imul, 1) := dk_104 (dk_at dksX7_isWay_2 19 rfl rfl)
theorem dX7_isWay_66 : decode cX7_isWay 66 = .ok (.iload 7, 2) := dk_21 7 (dk_at dksX7_isWay_2 20 rfl rfl)
theorem dX7_isWay_68 : decode cX7_isWay 68 = .ok (.iadd, 1) := dk_96 (dk_at dksX7_isWay_2 22 rfl rfl)
theorem dX7_isWay_69 : decode cX7_isWay 69 = .ok (.iaload, 1) := dk_46 (dk_at dksX7_isWay_2 23 rfl rfl)
theorem dX7_isWay_70 : decode cX7_isWay 70 = .ok (.istore 9, 2) := dk_54 9 (dk_at dksX7_isWay_3 0 rfl rfl)
theorem dX7_isWay_72 : decode cX7_isWay 72 = .ok (.iload 5, 2) := dk_21 5 (dk_at dksX7_isWay_3 2 rfl rfl)
theorem dX7_isWay_74 : decode cX7_isWay 74 = .ok (.ifCond .eq 13, 3) := dk_153 0 13 (dk_at dksX7_isWay_3 4 rfl rfl)
theorem dX7_isWay_77 : decode cX7_isWay 77 = .ok (.iload 9, 2) := dk_21 9 (dk_at dksX7_isWay_3 7 rfl rfl)
theorem dX7_isWay_79 : decode cX7_isWay 79 = .ok (.bipush 10, 2) := dk_16 10 (dk_at dksX7_isWay_3 9 rfl rfl)
theorem dX7_isWay_81 : decode cX7_isWay 81 = .ok (.if_icmp .lt 19, 3) := dk_161 0 19 (dk_at dksX7_isWay_3 11 rfl rfl)
theorem dX7_isWay_84 : decode cX7_isWay 84 = .ok (.goto 14, 3) := dk_167 0 14 (dk_at dksX7_isWay_3 14 rfl rfl)
theorem dX7_isWay_87 : decode cX7_isWay 87 = .ok (.iload 9, 2) := dk_21 9 (dk_at dksX7_isWay_3 17 rfl rfl)
theorem dX7_isWay_89 : decode cX7_isWay 89 = .ok (.ifCond .eq 9, 3) := dk_153 0 9 (dk_at dksX7_isWay_3 19 rfl rfl)
theorem dX7_isWay_92 : decode cX7_isWay 92 = .ok (.iload 9, 2) := dk_21 9 (dk_at dksX7_isWay_3 22 rfl rfl)
theorem dX7_isWay_94 : decode cX7_isWay 94 = .ok (.iconst 2, 1) := dk_5 (dk_at dksX7_isWay_4 0 rfl rfl)
theorem dX7_isWay_95 : decode cX7_isWay 95 = .ok (.if_icmp .ne 5, 3) := dk_160 0 5 (dk_at dksX7_isWay_4 1 rfl rfl)
theorem dX7_isWay_98 : decode cX7_isWay 98 = .ok (.iconst 0, 1) := dk_3 (dk_at dksX7_isWay_4 4 rfl rfl)
theorem dX7_isWay_99 : decode cX7_isWay 99 = .ok (.ireturn, 1) := dk_172 (dk_at dksX7_isWay_4 5 rfl rfl)
theorem dX7_isWay_100 : decode cX7_isWay 100 = .ok (.iinc 6 1, 3) := dk_132 6 1 (dk_at dksX7_isWay_4 6 rfl rfl)
theorem dX7_isWay_103 : decode cX7_isWay 103 = .ok (.goto (-100), 3) := dk_167 255 156 (dk_at dksX7_isWay_4 9 rfl rfl)
theorem dX7_isWay_106 : decode cX7_isWay 106 = .ok (.iconst 1, 1) := dk_4 (dk_at dksX7_isWay_4 12 rfl rfl)
theorem dX7_isWay_107 : decode cX7_isWay 107 = .ok (.ireturn, 1) := dk_172 (dk_at dksX7_isWay_4 13 rfl rfl)
theorem fl_X7_15 : gFl "BitingDoors$HouseReader" 15 [5] 8 := by
  intro args s hts hN ci hc
  simp only [List.mem_cons, List.not_mem_nil, or_false] at hc
  subst hc
  exact ⟨RX7, TX7, 10, "BitingDoors$HouseReader", gCl_X7, in_X7, by decide, Or.inl (hts _ q385), fun _ h => h⟩
theorem fl_X7_85 : gFl "BitingDoors$HouseReader" 85 [3] 0 := by
  intro args s hts hN ci hc
  simp only [List.mem_cons, List.not_mem_nil, or_false] at hc
  subst hc
  exact ⟨RX4, TX4, 9, "BitingDoors$House", gCl_X4, in_X4, by decide, Or.inr ⟨"BitingDoors", va_Nw.use rfl (hN.1 ("BitingDoors$HouseReader", 85, "BitingDoors$House", "cells", "[I", "BitingDoors") (List.mem_of_getElem? (i := 43) rfl))⟩, fun _ h => h⟩
theorem dn_X7_isWay : yX7_isWay.cls ≠ "java/lang/invoke/MethodHandle" ∧ yX7_isWay.cls ≠ "java/lang/invoke/VarHandle" ∧ (parseMethodDescriptor yX7_isWay.desc).map (fun d => d.parameters.length) = some 5 := by decide +kernel
noncomputable def M_X7_isWay (t : Nat) (p1 : Int32) (p2 : Int32) (p3 : Bool) (p4 : Int32) (p5 : Bool) : Mo Bool := Mo.bind (chk [5] t) (fun _ => Mo.loop (S := Int32) (fun s1 => if p4 ≤ s1 then Mo.pure (Sum.inr true) else Mo.bind ((cond p3 (Mo.pure p1) (Mo.pure (p1 + s1)) : Mo (Int32))) (fun u4 => Mo.bind ((cond p3 (Mo.pure (p2 + s1)) (Mo.pure p2) : Mo (Int32))) (fun u5 => Mo.bind (gR [5] t 8) (fun v6 => Mo.bind (M_X4_isCell v6 u4 u5) (fun v7 => cond v7 (Mo.bind (gR [5] t 8) (fun v8 => Mo.bind (gR [3] v8 0) (fun v9 => Mo.bind (aldI 0 v9 ((10 * u5) + u4)) (fun v10 => cond p5 (if v10 < 10 then Mo.lv (s1 + 1) (fun v12 => Mo.pure (Sum.inl v12)) else Mo.pure (Sum.inr false)) (if v10 = 0 then Mo.pure (Sum.inr false) else if v10 = 2 then Mo.pure (Sum.inr false) else Mo.lv (s1 + 1) (fun v11 => Mo.pure (Sum.inl v11))))))) (Mo.pure (Sum.inr false))))))) 0)
set_option maxHeartbeats 4000000 in
theorem ct_X7_isWay (G : gG) (t : Nat) (p1 : Int32) (p2 : Int32) (p3 : Bool) (p4 : Int32) (p5 : Bool) : gCt G yX7_isWay cX7_isWay 10 (some .boolean) 2 44 [.ref t, .int p1, .int p2, .int (b2i p3), .int p4, .int (b2i p5)] (M_X7_isWay t p1 p2 p3 p4 p5) (fun x : Bool => some (.int (b2i x))) := by
  refine gCt.of (by decide) (Nat.le_of_ble_eq_true rfl) (fun K r hG X hd ho => ?_)
  subst hG
  have X : gX K cX7_isWay 10 "BitingDoors$HouseReader" "isWay" (some .boolean) 2 44 := X
  have hle : gLe (kh1 K) (kh1 K) := gLe.rf
  show V K 10 (kh0 K) 0 [(0, .ref t), (1, .int p1), (2, .int p2), (3, .int (b2i p3)), (4, .int p4), (5, .int (b2i p5))] []
  generalize kh0 K = h at hd ⊢
  unfold M_X7_isWay at hd
  obtain ⟨-, hd⟩ := chk_some hd
  refine v_iconst (v := 0) X dX7_isWay_0 (by decide) ?_
  refine v_istore (lv2 := [(6, .int 0), (0, .ref t), (1, .int p1), (2, .int p2), (3, .int (b2i p3)), (4, .int p4), (5, .int (b2i p5))]) X dX7_isWay_1 (by decide) rfl ?_
  refine v_loc [1, 2, 3, 4, 5, 6, 0] rfl ?_
  refine loop_ind hd (fun (s1 : Int32) h => V K 10 h 3 [(0, .ref t), (1, .int p1), (2, .int p2), (3, .int (b2i p3)), (4, .int p4), (5, .int (b2i p5)), (6, .int s1)] []) (fun s1 h x h2 hd hle0 ih2 ho3 => ?_)
  have hle := hle0.tr hle
  refine v_iload X dX7_isWay_3 6 rfl ?_
  refine v_iload X dX7_isWay_5 4 rfl ?_
  refine v_icmp_ge (tgt := 106) X dX7_isWay_7 (by decide) (fun q => ?_) (fun q => ?_)
  · have hd := ite_t q hd
    refine v_iconst (v := 1) X dX7_isWay_106 (by decide) ?_
    have hd := lp_out hd ho3
    exact v_zret X hd rfl ho dX7_isWay_107
  · have hd := ite_f q hd
    refine v_iload_n X dX7_isWay_10 3 3 rfl rfl ?_
    obtain ⟨u4, h1, hd, hd2⟩ := Mo.bind_some hd
    have KJ : V K 10 h1 22 [(0, .ref t), (1, .int p1), (2, .int p2), (3, .int (b2i p3)), (4, .int p4), (5, .int (b2i p5)), (6, .int s1)] [.int u4] := by
      clear hd
      have hd := hd2
      refine v_istore (lv2 := [(7, .int u4), (0, .ref t), (1, .int p1), (2, .int p2), (3, .int (b2i p3)), (4, .int p4), (5, .int (b2i p5)), (6, .int s1)]) X dX7_isWay_22 (by decide) rfl ?_
      refine v_iload_n X dX7_isWay_24 4 3 rfl rfl ?_
      obtain ⟨u5, h1, hd, hd2⟩ := Mo.bind_some hd
      have KJ : V K 10 h1 36 [(0, .ref t), (1, .int p1), (2, .int p2), (3, .int (b2i p3)), (4, .int p4), (5, .int (b2i p5)), (6, .int s1), (7, .int u4)] [.int u5] := by
        clear hd
        have hd := hd2
        refine v_istore (lv2 := [(8, .int u5), (0, .ref t), (1, .int p1), (2, .int p2), (3, .int (b2i p3)), (4, .int p4), (5, .int (b2i p5)), (6, .int s1), (7, .int u4)]) X dX7_isWay_36 (by decide) rfl ?_
        refine v_aload_n X dX7_isWay_38 1 0 rfl rfl ?_
        refine v_getR X hd fl_X7_15 dX7_isWay_39 (fun v6 hd => ?_)
        refine v_iload X dX7_isWay_42 8 rfl ?_
        refine v_iload X dX7_isWay_44 0 rfl ?_
        refine v_callV X hd hle (ct_X4_isCell _ v6 u4 u5) gCl_X4 (lw_V q826 q827 q828 q114 q829) ⟨rfl, dn_X4_isCell⟩ rfl ⟨by decide, by decide⟩ rfl (Nat.le_of_ble_eq_true rfl) dX7_isWay_46 (fun v7 h hd => ?_)
        show V K 10 h 49 [(8, .int u5), (0, .ref t), (1, .int p1), (2, .int p2), (3, .int (b2i p3)), (4, .int p4), (5, .int (b2i p5)), (6, .int s1), (7, .int u4)] [.int (b2i v7)]
        refine v_ifZ_ne (tgt := 54) X dX7_isWay_49 (by decide) (fun q => ?_) (fun q => ?_)
        · have hd := cnd_t q hd
          refine v_aload_n X dX7_isWay_54 1 0 rfl rfl ?_
          refine v_getR X hd fl_X7_15 dX7_isWay_55 (fun v8 hd => ?_)
          refine v_getR X hd fl_X7_85 dX7_isWay_58 (fun v9 hd => ?_)
          refine v_bipush (v := 10) X dX7_isWay_61 (by decide) ?_
          refine v_iload X dX7_isWay_63 0 rfl ?_
          refine v_imul X dX7_isWay_65 ?_
          refine v_iload X dX7_isWay_66 8 rfl ?_
          refine v_iadd X dX7_isWay_68 ?_
          refine v_iald X hd dX7_isWay_69 (fun v10 hd => ?_)
          refine v_istore (lv2 := [(9, .int v10), (8, .int u5), (0, .ref t), (1, .int p1), (2, .int p2), (3, .int (b2i p3)), (4, .int p4), (5, .int (b2i p5)), (6, .int s1), (7, .int u4)]) X dX7_isWay_70 (by decide) rfl ?_
          refine v_iload X dX7_isWay_72 7 rfl ?_
          refine v_ifZ_eq (tgt := 87) X dX7_isWay_74 (by decide) (fun q => ?_) (fun q => ?_)
          · have hd := cnd_f q hd
            refine v_iload X dX7_isWay_87 0 rfl ?_
            refine v_if_eq (tgt := 98) X dX7_isWay_89 (by decide) (fun q => ?_) (fun q => ?_)
            · have hd := ite_t q hd
              refine v_iconst (v := 0) X dX7_isWay_98 (by decide) ?_
              have hd := lp_out hd ho3
              exact v_zret X hd rfl ho dX7_isWay_99
            · have hd := ite_f q hd
              refine v_iload X dX7_isWay_92 0 rfl ?_
              refine v_iconst (v := 2) X dX7_isWay_94 (by decide) ?_
              refine v_icmp_ne (tgt := 100) X dX7_isWay_95 (by decide) (fun q => ?_) (fun q => ?_)
              · have hd := ite_f q hd
                refine v_iincL (lv2 := fun v11 => [(6, .int v11), (9, .int v10), (8, .int u5), (0, .ref t), (1, .int p1), (2, .int p2), (3, .int (b2i p3)), (4, .int p4), (5, .int (b2i p5)), (7, .int u4)]) X hd dX7_isWay_100 8 rfl (by decide : Int32.ofInt 1 = 1) (by decide) (fun v11 => rfl) (fun v11 hd => ?_)
                refine v_goto (tgt := 3) X dX7_isWay_103 (by decide) ?_
                exact v_loc [3, 4, 5, 6, 7, 8, 0] rfl (lp_in (P := fun (s1 : Int32) h => V K 10 h 3 [(0, .ref t), (1, .int p1), (2, .int p2), (3, .int (b2i p3)), (4, .int p4), (5, .int (b2i p5)), (6, .int s1)] []) hd ih2)
              · have hd := ite_t q hd
                refine v_iconst (v := 0) X dX7_isWay_98 (by decide) ?_
                have hd := lp_out hd ho3
                exact v_zret X hd rfl ho dX7_isWay_99
          · have hd := cnd_t q hd
            refine v_iload X dX7_isWay_77 0 rfl ?_
            refine v_bipush (v := 10) X dX7_isWay_79 (by decide) ?_
            refine v_icmp_lt (tgt := 100) X dX7_isWay_81 (by decide) (fun q => ?_) (fun q => ?_)
            · have hd := ite_t q hd
              refine v_iincL (lv2 := fun v12 => [(6, .int v12), (9, .int v10), (8, .int u5), (0, .ref t), (1, .int p1), (2, .int p2), (3, .int (b2i p3)), (4, .int p4), (5, .int (b2i p5)), (7, .int u4)]) X hd dX7_isWay_100 8 rfl (by decide : Int32.ofInt 1 = 1) (by decide) (fun v12 => rfl) (fun v12 hd => ?_)
              refine v_goto (tgt := 3) X dX7_isWay_103 (by decide) ?_
              exact v_loc [3, 4, 5, 6, 7, 8, 0] rfl (lp_in (P := fun (s1 : Int32) h => V K 10 h 3 [(0, .ref t), (1, .int p1), (2, .int p2), (3, .int (b2i p3)), (4, .int p4), (5, .int (b2i p5)), (6, .int s1)] []) hd ih2)
            · have hd := ite_f q hd
              refine v_goto (tgt := 98) X dX7_isWay_84 (by decide) ?_
              refine v_iconst (v := 0) X dX7_isWay_98 (by decide) ?_
              have hd := lp_out hd ho3
              exact v_zret X hd rfl ho dX7_isWay_99
        · have hd := cnd_f q hd
          refine v_iconst (v := 0) X dX7_isWay_52 (by decide) ?_
          have hd := lp_out hd ho3
          exact v_zret X hd rfl ho dX7_isWay_53
      have hle := (Mo.le hd2).tr hle
      clear hd2
      refine v_ifZ_eq (tgt := 35) X dX7_isWay_25 (by decide) (fun q => ?_) (fun q => ?_)
      · have hd := cnd_f q hd
        refine v_iload_n X dX7_isWay_35 3 2 rfl rfl ?_
        exact v_loc [1, 2, 3, 4, 5, 6, 7, 0] rfl (v_at (P := fun (u5 : Int32) h => V K 10 h 36 [(0, .ref t), (1, .int p1), (2, .int p2), (3, .int (b2i p3)), (4, .int p4), (5, .int (b2i p5)), (6, .int s1), (7, .int u4)] [.int u5]) hd KJ)
      · have hd := cnd_t q hd
        refine v_iload_n X dX7_isWay_28 3 2 rfl rfl ?_
        refine v_iload X dX7_isWay_29 7 rfl ?_
        refine v_iadd X dX7_isWay_31 ?_
        refine v_goto (tgt := 36) X dX7_isWay_32 (by decide) ?_
        exact v_loc [1, 2, 3, 4, 5, 6, 7, 0] rfl (v_at (P := fun (u5 : Int32) h => V K 10 h 36 [(0, .ref t), (1, .int p1), (2, .int p2), (3, .int (b2i p3)), (4, .int p4), (5, .int (b2i p5)), (6, .int s1), (7, .int u4)] [.int u5]) hd KJ)
    have hle := (Mo.le hd2).tr hle
    clear hd2
    refine v_ifZ_eq (tgt := 18) X dX7_isWay_11 (by decide) (fun q => ?_) (fun q => ?_)
    · have hd := cnd_f q hd
      refine v_iload_n X dX7_isWay_18 1 1 rfl rfl ?_
      refine v_iload X dX7_isWay_19 6 rfl ?_
      refine v_iadd X dX7_isWay_21 ?_
      exact v_loc [0, 1, 2, 3, 4, 5, 6] rfl (v_at (P := fun (u4 : Int32) h => V K 10 h 22 [(0, .ref t), (1, .int p1), (2, .int p2), (3, .int (b2i p3)), (4, .int p4), (5, .int (b2i p5)), (6, .int s1)] [.int u4]) hd KJ)
    · have hd := cnd_t q hd
      refine v_iload_n X dX7_isWay_14 1 1 rfl rfl ?_
      refine v_goto (tgt := 22) X dX7_isWay_15 (by decide) ?_
      exact v_loc [0, 1, 2, 3, 4, 5, 6] rfl (v_at (P := fun (u4 : Int32) h => V K 10 h 22 [(0, .ref t), (1, .int p1), (2, .int p2), (3, .int (b2i p3)), (4, .int p4), (5, .int (b2i p5)), (6, .int s1)] [.int u4]) hd KJ)
def dkwX1_stand_2 : List UInt8 := [153, 0, 5, 3, 172, 42, 180, 0, 90, 16, 10, 28, 104, 27, 96, 181, 1, 162, 4, 172]
abbrev dktX1_stand_2 : List UInt8 := dkwX1_stand_2 ++ []
def dkwX1_stand_1 : List UInt8 := [28, 104, 27, 96, 182, 1, 156, 153, 0, 20, 42, 180, 0, 90, 16, 10, 28, 104, 27, 96, 2, 182, 1, 159]
abbrev dktX1_stand_1 : List UInt8 := dkwX1_stand_1 ++ dktX1_stand_2
def dkwX1_stand_0 : List UInt8 := [42, 180, 0, 90, 180, 0, 243, 27, 28, 182, 1, 0, 153, 0, 39, 42, 180, 0, 90, 180, 0, 243, 16, 10]
abbrev dktX1_stand_0 : List UInt8 := dkwX1_stand_0 ++ dktX1_stand_1
theorem dksX1_stand_0 : cX1_stand.data.toList.drop 0 = dktX1_stand_0 := by decide +kernel
theorem dksX1_stand_1 : cX1_stand.data.toList.drop 24 = dktX1_stand_1 := dk_seg dksX1_stand_0 24 rfl rfl
theorem dksX1_stand_2 : cX1_stand.data.toList.drop 48 = dktX1_stand_2 := dk_seg dksX1_stand_1 24 rfl rfl
theorem dX1_stand_0 : decode cX1_stand 0 = .ok (.aload_n 0, 1) := dk_42 (dk_at dksX1_stand_0 0 rfl rfl)
theorem dX1_stand_1 : decode cX1_stand 1 = .ok (.getfield 90, 3) := dk_180 0 90 (dk_at dksX1_stand_0 1 rfl rfl)
theorem dX1_stand_4 : decode cX1_stand 4 = .ok (.getfield 243, 3) := dk_180 0 243 (dk_at dksX1_stand_0 4 rfl rfl)
theorem dX1_stand_7 : decode cX1_stand 7 = .ok (.iload_n 1, 1) := dk_27 (dk_at dksX1_stand_0 7 rfl rfl)
theorem dX1_stand_8 : decode cX1_stand 8 = .ok (.iload_n 2, 1) := dk_28 (dk_at dksX1_stand_0 8 rfl rfl)
theorem dX1_stand_9 : decode cX1_stand 9 = .ok (.invokevirtual 256, 3) := dk_182 1 0 (dk_at dksX1_stand_0 9 rfl rfl)
theorem dX1_stand_12 : decode cX1_stand 12 = .ok (.ifCond .eq 39, 3) := dk_153 0 39 (dk_at dksX1_stand_0 12 rfl rfl)
theorem dX1_stand_15 : decode cX1_stand 15 = .ok (.aload_n 0, 1) := dk_42 (dk_at dksX1_stand_0 15 rfl rfl)
theorem dX1_stand_16 : decode cX1_stand 16 = .ok (.getfield 90, 3) := dk_180 0 90 (dk_at dksX1_stand_0 16 rfl rfl)
theorem dX1_stand_19 : decode cX1_stand 19 = .ok (.getfield 243, 3) := dk_180 0 243 (dk_at dksX1_stand_0 19 rfl rfl)
theorem dX1_stand_22 : decode cX1_stand 22 = .ok (.bipush 10, 2) := dk_16 10 (dk_at dksX1_stand_0 22 rfl rfl)
theorem dX1_stand_24 : decode cX1_stand 24 = .ok (.iload_n 2, 1) := dk_28 (dk_at dksX1_stand_1 0 rfl rfl)
theorem dX1_stand_25 : decode cX1_stand 25 = .ok (.imul, 1) := dk_104 (dk_at dksX1_stand_1 1 rfl rfl)
theorem dX1_stand_26 : decode cX1_stand 26 = .ok (.iload_n 1, 1) := dk_27 (dk_at dksX1_stand_1 2 rfl rfl)
theorem dX1_stand_27 : decode cX1_stand 27 = .ok (.iadd, 1) := dk_96 (dk_at dksX1_stand_1 3 rfl rfl)
theorem dX1_stand_28 : decode cX1_stand 28 = .ok (.invokevirtual 412, 3) := dk_182 1 156 (dk_at dksX1_stand_1 4 rfl rfl)
theorem dX1_stand_31 : decode cX1_stand 31 = .ok (.ifCond .eq 20, 3) := dk_153 0 20 (dk_at dksX1_stand_1 7 rfl rfl)
theorem dX1_stand_34 : decode cX1_stand 34 = .ok (.aload_n 0, 1) := dk_42 (dk_at dksX1_stand_1 10 rfl rfl)
theorem dX1_stand_35 : decode cX1_stand 35 = .ok (.getfield 90, 3) := dk_180 0 90 (dk_at dksX1_stand_1 11 rfl rfl)
theorem dX1_stand_38 : decode cX1_stand 38 = .ok (.bipush 10, 2) := dk_16 10 (dk_at dksX1_stand_1 14 rfl rfl)
theorem dX1_stand_40 : decode cX1_stand 40 = .ok (.iload_n 2, 1) := dk_28 (dk_at dksX1_stand_1 16 rfl rfl)
theorem dX1_stand_41 : decode cX1_stand 41 = .ok (.imul, 1) := dk_104 (dk_at dksX1_stand_1 17 rfl rfl)
theorem dX1_stand_42 : decode cX1_stand 42 = .ok (.iload_n 1, 1) := dk_27 (dk_at dksX1_stand_1 18 rfl rfl)
theorem dX1_stand_43 : decode cX1_stand 43 = .ok (.iadd, 1) := dk_96 (dk_at dksX1_stand_1 19 rfl rfl)
theorem dX1_stand_44 : decode cX1_stand 44 = .ok (.iconst (-1), 1) := dk_2 (dk_at dksX1_stand_1 20 rfl rfl)
theorem dX1_stand_45 : decode cX1_stand 45 = .ok (.invokevirtual 415, 3) := dk_182 1 159 (dk_at dksX1_stand_1 21 rfl rfl)
theorem dX1_stand_48 : decode cX1_stand 48 = .ok (.ifCond .eq 5, 3) := dk_153 0 5 (dk_at dksX1_stand_2 0 rfl rfl)
theorem dX1_stand_51 : decode cX1_stand 51 = .ok (.iconst 0, 1) := dk_3 (dk_at dksX1_stand_2 3 rfl rfl)
theorem dX1_stand_52 : decode cX1_stand 52 = .ok (.ireturn, 1) := dk_172 (dk_at dksX1_stand_2 4 rfl rfl)
theorem dX1_stand_53 : decode cX1_stand 53 = .ok (.aload_n 0, 1) := dk_42 (dk_at dksX1_stand_2 5 rfl rfl)
theorem dX1_stand_54 : decode cX1_stand 54 = .ok (.getfield 90, 3) := dk_180 0 90 (dk_at dksX1_stand_2 6 rfl rfl)
theorem dX1_stand_57 : decode cX1_stand 57 = .ok (.bipush 10, 2) := dk_16 10 (dk_at dksX1_stand_2 9 rfl rfl)
theorem dX1_stand_59 : decode cX1_stand 59 = .ok (.iload_n 2, 1) := dk_28 (dk_at dksX1_stand_2 11 rfl rfl)
theorem dX1_stand_60 : decode cX1_stand 60 = .ok (.imul, 1) := dk_104 (dk_at dksX1_stand_2 12 rfl rfl)
theorem dX1_stand_61 : decode cX1_stand 61 = .ok (.iload_n 1, 1) := dk_27 (dk_at dksX1_stand_2 13 rfl rfl)
theorem dX1_stand_62 : decode cX1_stand 62 = .ok (.iadd, 1) := dk_96 (dk_at dksX1_stand_2 14 rfl rfl)
theorem dX1_stand_63 : decode cX1_stand 63 = .ok (.putfield 418, 3) := dk_181 1 162 (dk_at dksX1_stand_2 15 rfl rfl)
theorem dX1_stand_66 : decode cX1_stand 66 = .ok (.iconst 1, 1) := dk_4 (dk_at dksX1_stand_2 18 rfl rfl)
theorem dX1_stand_67 : decode cX1_stand 67 = .ok (.ireturn, 1) := dk_172 (dk_at dksX1_stand_2 19 rfl rfl)
theorem dn_X1_stand : yX1_stand.cls ≠ "java/lang/invoke/MethodHandle" ∧ yX1_stand.cls ≠ "java/lang/invoke/VarHandle" ∧ (parseMethodDescriptor yX1_stand.desc).map (fun d => d.parameters.length) = some 2 := by decide +kernel
noncomputable def M_X1_stand (t : Nat) (p1 : Int32) (p2 : Int32) : Mo Bool := Mo.bind (chk [0] t) (fun _ => Mo.bind (gR [0] t 9) (fun v1 => Mo.bind (gR [2] v1 0) (fun v2 => Mo.bind (M_X4_isCell v2 p1 p2) (fun v3 => cond v3 (Mo.bind (gR [0] t 9) (fun v4 => Mo.bind (gR [2] v4 0) (fun v5 => Mo.bind (M_X4_isOpen v5 ((10 * p2) + p1)) (fun v6 => cond v6 (Mo.bind (gR [0] t 9) (fun v7 => Mo.bind (M_X3_isLeaf v7 ((10 * p2) + p1) (-1)) (fun v8 => cond v8 (Mo.pure false) (Mo.bind (gR [0] t 9) (fun v9 => Mo.bind (pF [2] v9 3 (.int ((10 * p2) + p1))) (fun _ => Mo.pure true)))))) (Mo.pure false))))) (Mo.pure false)))))
set_option maxHeartbeats 4000000 in
theorem ct_X1_stand (G : gG) (t : Nat) (p1 : Int32) (p2 : Int32) : gCt G yX1_stand cX1_stand 3 (some .boolean) 3 66 [.ref t, .int p1, .int p2] (M_X1_stand t p1 p2) (fun x : Bool => some (.int (b2i x))) := by
  refine gCt.of (by decide) (Nat.le_of_ble_eq_true rfl) (fun K r hG X hd ho => ?_)
  subst hG
  have X : gX K cX1_stand 3 "BitingDoors" "stand" (some .boolean) 3 66 := X
  have hle : gLe (kh1 K) (kh1 K) := gLe.rf
  show V K 3 (kh0 K) 0 [(0, .ref t), (1, .int p1), (2, .int p2)] []
  generalize kh0 K = h at hd ⊢
  unfold M_X1_stand at hd
  obtain ⟨-, hd⟩ := chk_some hd
  refine v_aload_n X dX1_stand_0 0 0 rfl rfl ?_
  refine v_getR X hd fl_X1_90 dX1_stand_1 (fun v1 hd => ?_)
  refine v_getR X hd fl_X1_243 dX1_stand_4 (fun v2 hd => ?_)
  refine v_iload_n X dX1_stand_7 1 1 rfl rfl ?_
  refine v_iload_n X dX1_stand_8 2 2 rfl rfl ?_
  refine v_callV X hd hle (ct_X4_isCell _ v2 p1 p2) gCl_X4 (lw_V q1110 q827 q828 q114 q829) ⟨rfl, dn_X4_isCell⟩ rfl ⟨by decide, by decide⟩ rfl (Nat.le_of_ble_eq_true rfl) dX1_stand_9 (fun v3 h hd => ?_)
  show V K 3 h 12 [(0, .ref t), (1, .int p1), (2, .int p2)] [.int (b2i v3)]
  refine v_ifZ_eq (tgt := 51) X dX1_stand_12 (by decide) (fun q => ?_) (fun q => ?_)
  · have hd := cnd_f q hd
    refine v_iconst (v := 0) X dX1_stand_51 (by decide) ?_
    exact v_zret X hd rfl ho dX1_stand_52
  · have hd := cnd_t q hd
    refine v_aload_n X dX1_stand_15 0 0 rfl rfl ?_
    refine v_getR X hd fl_X1_90 dX1_stand_16 (fun v4 hd => ?_)
    refine v_getR X hd fl_X1_243 dX1_stand_19 (fun v5 hd => ?_)
    refine v_bipush (v := 10) X dX1_stand_22 (by decide) ?_
    refine v_iload_n X dX1_stand_24 2 2 rfl rfl ?_
    refine v_imul X dX1_stand_25 ?_
    refine v_iload_n X dX1_stand_26 1 1 rfl rfl ?_
    refine v_iadd X dX1_stand_27 ?_
    refine v_callV X hd hle (ct_X4_isOpen _ v5 ((10 * p2) + p1)) gCl_X4 (lw_V q1275 q1276 q1277 q114 q1278) ⟨rfl, dn_X4_isOpen⟩ rfl ⟨by decide, by decide⟩ rfl (Nat.le_of_ble_eq_true rfl) dX1_stand_28 (fun v6 h hd => ?_)
    show V K 3 h 31 [(0, .ref t), (1, .int p1), (2, .int p2)] [.int (b2i v6)]
    refine v_ifZ_eq (tgt := 51) X dX1_stand_31 (by decide) (fun q => ?_) (fun q => ?_)
    · have hd := cnd_f q hd
      refine v_iconst (v := 0) X dX1_stand_51 (by decide) ?_
      exact v_zret X hd rfl ho dX1_stand_52
    · have hd := cnd_t q hd
      refine v_aload_n X dX1_stand_34 0 0 rfl rfl ?_
      refine v_getR X hd fl_X1_90 dX1_stand_35 (fun v7 hd => ?_)
      refine v_bipush (v := 10) X dX1_stand_38 (by decide) ?_
      refine v_iload_n X dX1_stand_40 2 2 rfl rfl ?_
      refine v_imul X dX1_stand_41 ?_
      refine v_iload_n X dX1_stand_42 1 1 rfl rfl ?_
      refine v_iadd X dX1_stand_43 ?_
      refine v_iconst (v := (-1)) X dX1_stand_44 (by decide) ?_
      refine v_callV X hd hle (ct_X3_isLeaf _ v7 ((10 * p2) + p1) (-1)) gCl_X3 (lw_V q1279 q1280 q1281 q113 q1282) ⟨rfl, dn_X3_isLeaf⟩ rfl ⟨by decide, by decide⟩ rfl (Nat.le_of_ble_eq_true rfl) dX1_stand_45 (fun v8 h hd => ?_)
      show V K 3 h 48 [(0, .ref t), (1, .int p1), (2, .int p2)] [.int (b2i v8)]
      refine v_ifZ_eq (tgt := 53) X dX1_stand_48 (by decide) (fun q => ?_) (fun q => ?_)
      · have hd := cnd_f q hd
        refine v_aload_n X dX1_stand_53 0 0 rfl rfl ?_
        refine v_getR X hd fl_X1_90 dX1_stand_54 (fun v9 hd => ?_)
        refine v_bipush (v := 10) X dX1_stand_57 (by decide) ?_
        refine v_iload_n X dX1_stand_59 2 2 rfl rfl ?_
        refine v_imul X dX1_stand_60 ?_
        refine v_iload_n X dX1_stand_61 1 1 rfl rfl ?_
        refine v_iadd X dX1_stand_62 ?_
        refine v_put (v := .int ((10 * p2) + p1)) X hd fp_X1_418 rfl rfl dX1_stand_63 (fun h hd => ?_)
        refine v_iconst (v := 1) X dX1_stand_66 (by decide) ?_
        exact v_zret X hd rfl ho dX1_stand_67
      · have hd := cnd_t q hd
        refine v_iconst (v := 0) X dX1_stand_51 (by decide) ?_
        exact v_zret X hd rfl ho dX1_stand_52
def dkwX1_wayAt_1 : List UInt8 := [172]
abbrev dktX1_wayAt_1 : List UInt8 := dkwX1_wayAt_1 ++ []
def dkwX1_wayAt_0 : List UInt8 := [27, 3, 42, 180, 1, 199, 4, 100, 184, 0, 248, 153, 0, 12, 42, 180, 0, 166, 27, 46, 167, 0, 4, 2]
abbrev dktX1_wayAt_0 : List UInt8 := dkwX1_wayAt_0 ++ dktX1_wayAt_1
theorem dksX1_wayAt_0 : cX1_wayAt.data.toList.drop 0 = dktX1_wayAt_0 := by decide +kernel
theorem dksX1_wayAt_1 : cX1_wayAt.data.toList.drop 24 = dktX1_wayAt_1 := dk_seg dksX1_wayAt_0 24 rfl rfl
theorem dX1_wayAt_0 : decode cX1_wayAt 0 = .ok (.iload_n 1, 1) := dk_27 (dk_at dksX1_wayAt_0 0 rfl rfl)
theorem dX1_wayAt_1 : decode cX1_wayAt 1 = .ok (.iconst 0, 1) := dk_3 (dk_at dksX1_wayAt_0 1 rfl rfl)
theorem dX1_wayAt_2 : decode cX1_wayAt 2 = .ok (.aload_n 0, 1) := dk_42 (dk_at dksX1_wayAt_0 2 rfl rfl)
theorem dX1_wayAt_3 : decode cX1_wayAt 3 = .ok (.getfield 455, 3) := dk_180 1 199 (dk_at dksX1_wayAt_0 3 rfl rfl)
theorem dX1_wayAt_6 : decode cX1_wayAt 6 = .ok (.iconst 1, 1) := dk_4 (dk_at dksX1_wayAt_0 6 rfl rfl)
theorem dX1_wayAt_7 : decode cX1_wayAt 7 = .ok (.isub, 1) := dk_100 (dk_at dksX1_wayAt_0 7 rfl rfl)
theorem dX1_wayAt_8 : decode cX1_wayAt 8 = .ok (.invokestatic 248, 3) := dk_184 0 248 (dk_at dksX1_wayAt_0 8 rfl rfl)
theorem dX1_wayAt_11 : decode cX1_wayAt 11 = .ok (.ifCond .eq 12, 3) := dk_153 0 12 (dk_at dksX1_wayAt_0 11 rfl rfl)
theorem dX1_wayAt_14 : decode cX1_wayAt 14 = .ok (.aload_n 0, 1) := dk_42 (dk_at dksX1_wayAt_0 14 rfl rfl)
theorem dX1_wayAt_15 : decode cX1_wayAt 15 = .ok (.getfield 166, 3) := dk_180 0 166 (dk_at dksX1_wayAt_0 15 rfl rfl)
theorem dX1_wayAt_18 : decode cX1_wayAt 18 = .ok (.iload_n 1, 1) := dk_27 (dk_at dksX1_wayAt_0 18 rfl rfl)
theorem dX1_wayAt_19 : decode cX1_wayAt 19 = .ok (.iaload, 1) := dk_46 (dk_at dksX1_wayAt_0 19 rfl rfl)
theorem dX1_wayAt_20 : decode cX1_wayAt 20 = .ok (.goto 4, 3) := dk_167 0 4 (dk_at dksX1_wayAt_0 20 rfl rfl)
theorem dX1_wayAt_23 : decode cX1_wayAt 23 = .ok (.iconst (-1), 1) := dk_2 (dk_at dksX1_wayAt_0 23 rfl rfl)
theorem dX1_wayAt_24 : decode cX1_wayAt 24 = .ok (.ireturn, 1) := dk_172 (dk_at dksX1_wayAt_1 0 rfl rfl)
theorem fl_X1_166 : gFl "BitingDoors" 166 [0] 37 := by
  intro args s hts hN ci hc
  simp only [List.mem_cons, List.not_mem_nil, or_false] at hc
  subst hc
  exact ⟨RX1, TX1, 46, "BitingDoors", gCl_X1, in_X1, by decide, Or.inl (hts _ q538), fun _ h => h⟩
theorem fl_X1_455 : gFl "BitingDoors" 455 [0] 39 := by
  intro args s hts hN ci hc
  simp only [List.mem_cons, List.not_mem_nil, or_false] at hc
  subst hc
  exact ⟨RX1, TX1, 46, "BitingDoors", gCl_X1, in_X1, by decide, Or.inl (hts _ q540), fun _ h => h⟩
theorem dn_X1_wayAt : yX1_wayAt.cls ≠ "java/lang/invoke/MethodHandle" ∧ yX1_wayAt.cls ≠ "java/lang/invoke/VarHandle" ∧ (parseMethodDescriptor yX1_wayAt.desc).map (fun d => d.parameters.length) = some 1 := by decide +kernel
noncomputable def M_X1_wayAt (t : Nat) (p1 : Int32) : Mo Int32 := Mo.bind (chk [0] t) (fun _ => Mo.bind (gI [0] t 39) (fun v1 => Mo.bind (M_X1_isIn p1 0 (v1 - 1)) (fun v2 => Mo.bind ((cond v2 (Mo.bind (gR [0] t 37) (fun v4 => Mo.bind (aldI 0 v4 p1) (fun v5 => Mo.pure v5))) (Mo.pure (-1)) : Mo (Int32))) (fun u3 => Mo.pure u3))))
set_option maxHeartbeats 4000000 in
theorem ct_X1_wayAt (G : gG) (t : Nat) (p1 : Int32) : gCt G yX1_wayAt cX1_wayAt 2 (some .int) 1 22 [.ref t, .int p1] (M_X1_wayAt t p1) (fun x : Int32 => some (.int x)) := by
  refine gCt.of (by decide) (Nat.le_of_ble_eq_true rfl) (fun K r hG X hd ho => ?_)
  subst hG
  have X : gX K cX1_wayAt 2 "BitingDoors" "wayAt" (some .int) 1 22 := X
  have hle : gLe (kh1 K) (kh1 K) := gLe.rf
  show V K 2 (kh0 K) 0 [(0, .ref t), (1, .int p1)] []
  generalize kh0 K = h at hd ⊢
  unfold M_X1_wayAt at hd
  obtain ⟨-, hd⟩ := chk_some hd
  refine v_iload_n X dX1_wayAt_0 1 1 rfl rfl ?_
  refine v_iconst (v := 0) X dX1_wayAt_1 (by decide) ?_
  refine v_aload_n X dX1_wayAt_2 0 0 rfl rfl ?_
  refine v_getI X hd fl_X1_455 dX1_wayAt_3 (fun v1 hd => ?_)
  refine v_iconst (v := 1) X dX1_wayAt_6 (by decide) ?_
  refine v_isub X dX1_wayAt_7 ?_
  refine v_callS X hd hle (ct_X1_isIn _ p1 0 (v1 - 1)) (lw_S q1119 q688 q109 q689) dn_X1_isIn rfl ⟨by decide, by decide⟩ rfl (Nat.le_of_ble_eq_true rfl) dX1_wayAt_8 (fun v2 h hd => ?_)
  show V K 2 h 11 [(0, .ref t), (1, .int p1)] [.int (b2i v2)]
  obtain ⟨u3, h1, hd, hd2⟩ := Mo.bind_some hd
  have KJ : V K 2 h1 24 [] [.int u3] := by
    clear hd
    have hd := hd2
    exact v_iret X hd ho dX1_wayAt_24
  have hle := (Mo.le hd2).tr hle
  clear hd2
  refine v_ifZ_eq (tgt := 23) X dX1_wayAt_11 (by decide) (fun q => ?_) (fun q => ?_)
  · have hd := cnd_f q hd
    refine v_iconst (v := (-1)) X dX1_wayAt_23 (by decide) ?_
    exact v_loc [] rfl (v_at (P := fun (u3 : Int32) h => V K 2 h 24 [] [.int u3]) hd KJ)
  · have hd := cnd_t q hd
    refine v_aload_n X dX1_wayAt_14 0 0 rfl rfl ?_
    refine v_getR X hd fl_X1_166 dX1_wayAt_15 (fun v4 hd => ?_)
    refine v_iload_n X dX1_wayAt_18 1 1 rfl rfl ?_
    refine v_iald X hd dX1_wayAt_19 (fun v5 hd => ?_)
    refine v_goto (tgt := 24) X dX1_wayAt_20 (by decide) ?_
    exact v_loc [] rfl (v_at (P := fun (u3 : Int32) h => V K 2 h 24 [] [.int u3]) hd KJ)
def dkwX1_ways_0 : List UInt8 := [42, 182, 1, 102, 42, 3, 181, 1, 109, 42, 3, 182, 1, 112, 42, 180, 1, 109, 172]
abbrev dktX1_ways_0 : List UInt8 := dkwX1_ways_0 ++ []
theorem dksX1_ways_0 : cX1_ways.data.toList.drop 0 = dktX1_ways_0 := by decide +kernel
theorem dX1_ways_0 : decode cX1_ways 0 = .ok (.aload_n 0, 1) := dk_42 (dk_at dksX1_ways_0 0 rfl rfl)
theorem dX1_ways_1 : decode cX1_ways 1 = .ok (.invokevirtual 358, 3) := dk_182 1 102 (dk_at dksX1_ways_0 1 rfl rfl)
theorem dX1_ways_4 : decode cX1_ways 4 = .ok (.aload_n 0, 1) := dk_42 (dk_at dksX1_ways_0 4 rfl rfl)
theorem dX1_ways_5 : decode cX1_ways 5 = .ok (.iconst 0, 1) := dk_3 (dk_at dksX1_ways_0 5 rfl rfl)
theorem dX1_ways_6 : decode cX1_ways 6 = .ok (.putfield 365, 3) := dk_181 1 109 (dk_at dksX1_ways_0 6 rfl rfl)
theorem dX1_ways_9 : decode cX1_ways 9 = .ok (.aload_n 0, 1) := dk_42 (dk_at dksX1_ways_0 9 rfl rfl)
theorem dX1_ways_10 : decode cX1_ways 10 = .ok (.iconst 0, 1) := dk_3 (dk_at dksX1_ways_0 10 rfl rfl)
theorem dX1_ways_11 : decode cX1_ways 11 = .ok (.invokevirtual 368, 3) := dk_182 1 112 (dk_at dksX1_ways_0 11 rfl rfl)
theorem dX1_ways_14 : decode cX1_ways 14 = .ok (.aload_n 0, 1) := dk_42 (dk_at dksX1_ways_0 14 rfl rfl)
theorem dX1_ways_15 : decode cX1_ways 15 = .ok (.getfield 365, 3) := dk_180 1 109 (dk_at dksX1_ways_0 15 rfl rfl)
theorem dX1_ways_18 : decode cX1_ways 18 = .ok (.ireturn, 1) := dk_172 (dk_at dksX1_ways_0 18 rfl rfl)
theorem dn_X1_ways : yX1_ways.cls ≠ "java/lang/invoke/MethodHandle" ∧ yX1_ways.cls ≠ "java/lang/invoke/VarHandle" ∧ (parseMethodDescriptor yX1_ways.desc).map (fun d => d.parameters.length) = some 0 := by decide +kernel
noncomputable def M_X1_ways (t : Nat) : Mo Int32 := Mo.bind (chk [0] t) (fun _ => Mo.bind (M_X1_domains t) (fun v1 => Mo.bind (pF [0] t 20 (.int 0)) (fun _ => Mo.bind (M_X1_ways_2 12 t 0) (fun v2 => Mo.bind (gI [0] t 20) (fun v3 => Mo.pure v3)))))
set_option maxHeartbeats 4000000 in
theorem ct_X1_ways (G : gG) (t : Nat) : gCt G yX1_ways cX1_ways 1 (some .int) 15 333 [.ref t] (M_X1_ways t) (fun x : Int32 => some (.int x)) := by
  refine gCt.of (by decide) (Nat.le_of_ble_eq_true rfl) (fun K r hG X hd ho => ?_)
  subst hG
  have X : gX K cX1_ways 1 "BitingDoors" "ways" (some .int) 15 333 := X
  have hle : gLe (kh1 K) (kh1 K) := gLe.rf
  show V K 1 (kh0 K) 0 [(0, .ref t)] []
  generalize kh0 K = h at hd ⊢
  unfold M_X1_ways at hd
  obtain ⟨-, hd⟩ := chk_some hd
  refine v_aload_n X dX1_ways_0 0 0 rfl rfl ?_
  refine v_callV X hd hle (ct_X1_domains _ t) gCl_X1 (lw_V q1172 q1174 qs16 q109 q1175) ⟨rfl, dn_X1_domains⟩ rfl ⟨by decide, by decide⟩ rfl (Nat.le_of_ble_eq_true rfl) dX1_ways_1 (fun v1 h hd => ?_)
  show V K 1 h 4 [(0, .ref t)] []
  refine v_aload_n X dX1_ways_4 0 0 rfl rfl ?_
  refine v_iconst (v := 0) X dX1_ways_5 (by decide) ?_
  refine v_put (v := .int 0) X hd fp_X1_365 rfl rfl dX1_ways_6 (fun h hd => ?_)
  refine v_aload_n X dX1_ways_9 0 0 rfl rfl ?_
  refine v_iconst (v := 0) X dX1_ways_10 (by decide) ?_
  refine v_callV X hd hle (ct_X1_ways_2 _ 12 t 0) gCl_X1 (lw_V q1218 q1220 qs21 q109 q1221) ⟨rfl, dn_X1_ways_2⟩ rfl ⟨by decide, by decide⟩ rfl (Nat.le_of_ble_eq_true rfl) dX1_ways_11 (fun v2 h hd => ?_)
  show V K 1 h 14 [(0, .ref t)] []
  refine v_aload_n X dX1_ways_14 0 0 rfl rfl ?_
  refine v_getI X hd fl_X1_365 dX1_ways_15 (fun v3 hd => ?_)
  exact v_iret X hd ho dX1_ways_18
def dkwX1_way_7 : List UInt8 := [167, 255, 218, 42, 180, 1, 199, 172]
abbrev dktX1_way_7 : List UInt8 := dkwX1_way_7 ++ []
def dkwX1_way_6 : List UInt8 := [180, 0, 166, 21, 4, 42, 180, 0, 160, 21, 5, 46, 79, 42, 180, 0, 157, 21, 5, 46, 54, 5]
abbrev dktX1_way_6 : List UInt8 := dkwX1_way_6 ++ dktX1_way_7
def dkwX1_way_5 : List UInt8 := [181, 1, 199, 29, 54, 5, 42, 180, 0, 157, 21, 5, 46, 21, 5, 159, 0, 32, 132, 4, 255, 42]
abbrev dktX1_way_5 : List UInt8 := dkwX1_way_5 ++ dktX1_way_6
def dkwX1_way_4 : List UInt8 := [21, 5, 159, 0, 18, 132, 4, 1, 42, 180, 0, 157, 21, 5, 46, 54, 5, 167, 255, 232, 42, 21, 4]
abbrev dktX1_way_4 : List UInt8 := dkwX1_way_4 ++ dktX1_way_5
def dkwX1_way_3 : List UInt8 := [182, 1, 196, 62, 29, 2, 160, 0, 5, 2, 172, 3, 54, 4, 29, 54, 5, 42, 180, 0, 157, 21, 5, 46]
abbrev dktX1_way_3 : List UInt8 := dkwX1_way_3 ++ dktX1_way_4
def dkwX1_way_2 : List UInt8 := [180, 0, 90, 180, 0, 243, 180, 0, 247, 8, 164, 0, 6, 16, 254, 172, 42, 16, 10, 28, 104, 27, 96]
abbrev dktX1_way_2 : List UInt8 := dkwX1_way_2 ++ dktX1_way_3
def dkwX1_way_1 : List UInt8 := [28, 104, 27, 96, 182, 1, 156, 153, 0, 28, 42, 180, 0, 90, 180, 1, 162, 2, 159, 0, 17, 42]
abbrev dktX1_way_1 : List UInt8 := dkwX1_way_1 ++ dktX1_way_2
def dkwX1_way_0 : List UInt8 := [42, 180, 0, 90, 180, 0, 243, 27, 28, 182, 1, 0, 153, 0, 47, 42, 180, 0, 90, 180, 0, 243, 16, 10]
abbrev dktX1_way_0 : List UInt8 := dkwX1_way_0 ++ dktX1_way_1
theorem dksX1_way_0 : cX1_way.data.toList.drop 0 = dktX1_way_0 := by decide +kernel
theorem dksX1_way_1 : cX1_way.data.toList.drop 24 = dktX1_way_1 := dk_seg dksX1_way_0 24 rfl rfl
theorem dksX1_way_2 : cX1_way.data.toList.drop 46 = dktX1_way_2 := dk_seg dksX1_way_1 22 rfl rfl
theorem dksX1_way_3 : cX1_way.data.toList.drop 69 = dktX1_way_3 := dk_seg dksX1_way_2 23 rfl rfl
theorem dksX1_way_4 : cX1_way.data.toList.drop 93 = dktX1_way_4 := dk_seg dksX1_way_3 24 rfl rfl
theorem dksX1_way_5 : cX1_way.data.toList.drop 116 = dktX1_way_5 := dk_seg dksX1_way_4 23 rfl rfl
theorem dksX1_way_6 : cX1_way.data.toList.drop 138 = dktX1_way_6 := dk_seg dksX1_way_5 22 rfl rfl
theorem dksX1_way_7 : cX1_way.data.toList.drop 160 = dktX1_way_7 := dk_seg dksX1_way_6 22 rfl rfl
theorem dX1_way_0 : decode cX1_way 0 = .ok (.aload_n 0, 1) := dk_42 (dk_at dksX1_way_0 0 rfl rfl)
theorem dX1_way_1 : decode cX1_way 1 = .ok (.getfield 90, 3) := dk_180 0 90 (dk_at dksX1_way_0 1 rfl rfl)
theorem dX1_way_4 : decode cX1_way 4 = .ok (.getfield 243, 3) := dk_180 0 243 (dk_at dksX1_way_0 4 rfl rfl)
theorem dX1_way_7 : decode cX1_way 7 = .ok (.iload_n 1, 1) := dk_27 (dk_at dksX1_way_0 7 rfl rfl)
theorem dX1_way_8 : decode cX1_way 8 = .ok (.iload_n 2, 1) := dk_28 (dk_at dksX1_way_0 8 rfl rfl)
theorem dX1_way_9 : decode cX1_way 9 = .ok (.invokevirtual 256, 3) := dk_182 1 0 (dk_at dksX1_way_0 9 rfl rfl)
theorem dX1_way_12 : decode cX1_way 12 = .ok (.ifCond .eq 47, 3) := dk_153 0 47 (dk_at dksX1_way_0 12 rfl rfl)
theorem dX1_way_15 : decode cX1_way 15 = .ok (.aload_n 0, 1) := dk_42 (dk_at dksX1_way_0 15 rfl rfl)
theorem dX1_way_16 : decode cX1_way 16 = .ok (.getfield 90, 3) := dk_180 0 90 (dk_at dksX1_way_0 16 rfl rfl)
theorem dX1_way_19 : decode cX1_way 19 = .ok (.getfield 243, 3) := dk_180 0 243 (dk_at dksX1_way_0 19 rfl rfl)
theorem dX1_way_22 : decode cX1_way 22 = .ok (.bipush 10, 2) := dk_16 10 (dk_at dksX1_way_0 22 rfl rfl)
theorem dX1_way_24 : decode cX1_way 24 = .ok (.iload_n 2, 1) := dk_28 (dk_at dksX1_way_1 0 rfl rfl)
theorem dX1_way_25 : decode cX1_way 25 = .ok (.imul, 1) := dk_104 (dk_at dksX1_way_1 1 rfl rfl)
theorem dX1_way_26 : decode cX1_way 26 = .ok (.iload_n 1, 1) := dk_27 (dk_at dksX1_way_1 2 rfl rfl)
theorem dX1_way_27 : decode cX1_way 27 = .ok (.iadd, 1) := dk_96 (dk_at dksX1_way_1 3 rfl rfl)
theorem dX1_way_28 : decode cX1_way 28 = .ok (.invokevirtual 412, 3) := dk_182 1 156 (dk_at dksX1_way_1 4 rfl rfl)
theorem dX1_way_31 : decode cX1_way 31 = .ok (.ifCond .eq 28, 3) := dk_153 0 28 (dk_at dksX1_way_1 7 rfl rfl)
theorem dX1_way_34 : decode cX1_way 34 = .ok (.aload_n 0, 1) := dk_42 (dk_at dksX1_way_1 10 rfl rfl)
theorem dX1_way_35 : decode cX1_way 35 = .ok (.getfield 90, 3) := dk_180 0 90 (dk_at dksX1_way_1 11 rfl rfl)
theorem dX1_way_38 : decode cX1_way 38 = .ok (.getfield 418, 3) := dk_180 1 162 (dk_at dksX1_way_1 14 rfl rfl)
theorem dX1_way_41 : decode cX1_way 41 = .ok (.iconst (-1), 1) := dk_2 (dk_at dksX1_way_1 17 rfl rfl)
theorem dX1_way_42 : decode cX1_way 42 = .ok (.if_icmp .eq 17, 3) := dk_159 0 17 (dk_at dksX1_way_1 18 rfl rfl)
theorem dX1_way_45 : decode cX1_way 45 = .ok (.aload_n 0, 1) := dk_42 (dk_at dksX1_way_1 21 rfl rfl)
theorem dX1_way_46 : decode cX1_way 46 = .ok (.getfield 90, 3) := dk_180 0 90 (dk_at dksX1_way_2 0 rfl rfl)
theorem dX1_way_49 : decode cX1_way 49 = .ok (.getfield 243, 3) := dk_180 0 243 (dk_at dksX1_way_2 3 rfl rfl)
theorem dX1_way_52 : decode cX1_way 52 = .ok (.getfield 247, 3) := dk_180 0 247 (dk_at dksX1_way_2 6 rfl rfl)
theorem dX1_way_55 : decode cX1_way 55 = .ok (.iconst 5, 1) := dk_8 (dk_at dksX1_way_2 9 rfl rfl)
theorem dX1_way_56 : decode cX1_way 56 = .ok (.if_icmp .le 6, 3) := dk_164 0 6 (dk_at dksX1_way_2 10 rfl rfl)
theorem dX1_way_59 : decode cX1_way 59 = .ok (.bipush (-2), 2) := dk_16 254 (dk_at dksX1_way_2 13 rfl rfl)
theorem dX1_way_61 : decode cX1_way 61 = .ok (.ireturn, 1) := dk_172 (dk_at dksX1_way_2 15 rfl rfl)
theorem dX1_way_62 : decode cX1_way 62 = .ok (.aload_n 0, 1) := dk_42 (dk_at dksX1_way_2 16 rfl rfl)
theorem dX1_way_63 : decode cX1_way 63 = .ok (.bipush 10, 2) := dk_16 10 (dk_at dksX1_way_2 17 rfl rfl)
theorem dX1_way_65 : decode cX1_way 65 = .ok (.iload_n 2, 1) := dk_28 (dk_at dksX1_way_2 19 rfl rfl)
theorem dX1_way_66 : decode cX1_way 66 = .ok (.imul, 1) := dk_104 (dk_at dksX1_way_2 20 rfl rfl)
theorem dX1_way_67 : decode cX1_way 67 = .ok (.iload_n 1, 1) := dk_27 (dk_at dksX1_way_2 21 rfl rfl)
theorem dX1_way_68 : decode cX1_way 68 = .ok (.iadd, 1) := dk_96 (dk_at dksX1_way_2 22 rfl rfl)
theorem dX1_way_69 : decode cX1_way 69 = .ok (.invokevirtual 452, 3) := dk_182 1 196 (dk_at dksX1_way_3 0 rfl rfl)
theorem dX1_way_72 : decode cX1_way 72 = .ok (.istore_n 3, 1) := dk_62 (dk_at dksX1_way_3 3 rfl rfl)
theorem dX1_way_73 : decode cX1_way 73 = .ok (.iload_n 3, 1) := dk_29 (dk_at dksX1_way_3 4 rfl rfl)
theorem dX1_way_74 : decode cX1_way 74 = .ok (.iconst (-1), 1) := dk_2 (dk_at dksX1_way_3 5 rfl rfl)
theorem dX1_way_75 : decode cX1_way 75 = .ok (.if_icmp .ne 5, 3) := dk_160 0 5 (dk_at dksX1_way_3 6 rfl rfl)
theorem dX1_way_78 : decode cX1_way 78 = .ok (.iconst (-1), 1) := dk_2 (dk_at dksX1_way_3 9 rfl rfl)
theorem dX1_way_79 : decode cX1_way 79 = .ok (.ireturn, 1) := dk_172 (dk_at dksX1_way_3 10 rfl rfl)
theorem dX1_way_80 : decode cX1_way 80 = .ok (.iconst 0, 1) := dk_3 (dk_at dksX1_way_3 11 rfl rfl)
theorem dX1_way_81 : decode cX1_way 81 = .ok (.istore 4, 2) := dk_54 4 (dk_at dksX1_way_3 12 rfl rfl)
theorem dX1_way_83 : decode cX1_way 83 = .ok (.iload_n 3, 1) := dk_29 (dk_at dksX1_way_3 14 rfl rfl)
theorem dX1_way_84 : decode cX1_way 84 = .ok (.istore 5, 2) := dk_54 5 (dk_at dksX1_way_3 15 rfl rfl)
theorem dX1_way_86 : decode cX1_way 86 = .ok (.aload_n 0, 1) := dk_42 (dk_at dksX1_way_3 17 rfl rfl)
theorem dX1_way_87 : decode cX1_way 87 = .ok (.getfield 157, 3) := dk_180 0 157 (dk_at dksX1_way_3 18 rfl rfl)
theorem dX1_way_90 : decode cX1_way 90 = .ok (.iload 5, 2) := dk_21 5 (dk_at dksX1_way_3 21 rfl rfl)
theorem dX1_way_92 : decode cX1_way 92 = .ok (.iaload, 1) := dk_46 (dk_at dksX1_way_3 23 rfl rfl)
theorem dX1_way_93 : decode cX1_way 93 = .ok (.iload 5, 2) := dk_21 5 (dk_at dksX1_way_4 0 rfl rfl)
theorem dX1_way_95 : decode cX1_way 95 = .ok (.if_icmp .eq 18, 3) := dk_159 0 18 (dk_at dksX1_way_4 2 rfl rfl)
theorem dX1_way_98 : decode cX1_way 98 = .ok (.iinc 4 1, 3) := dk_132 4 1 (dk_at dksX1_way_4 5 rfl rfl)
theorem dX1_way_101 : decode cX1_way 101 = .ok (.aload_n 0, 1) := dk_42 (dk_at dksX1_way_4 8 rfl rfl)
theorem dX1_way_102 : decode cX1_way 102 = .ok (.getfield 157, 3) := dk_180 0 157 (dk_at dksX1_way_4 9 rfl rfl)
theorem dX1_way_105 : decode cX1_way 105 = .ok (.iload 5, 2) := dk_21 5 (dk_at dksX1_way_4 12 rfl rfl)
theorem dX1_way_107 : decode cX1_way 107 = .ok (.iaload, 1) := dk_46 (dk_at dksX1_way_4 14 rfl rfl)
theorem dX1_way_108 : decode cX1_way 108 = .ok (.istore 5, 2) := dk_54 5 (dk_at dksX1_way_4 15 rfl rfl)
theorem dX1_way_110 : decode cX1_way 110 = .ok (.goto (-24), 3) := dk_167 255 232 (dk_at dksX1_way_4 17 rfl rfl)
theorem dX1_way_113 : decode cX1_way 113 = .ok (.aload_n 0, 1) := dk_42 (dk_at dksX1_way_4 20 rfl rfl)
theorem dX1_way_114 : decode cX1_way 114 = .ok (.iload 4, 2) := dk_21 4 (dk_at dksX1_way_4 21 rfl rfl)
theorem dX1_way_116 : decode cX1_way 116 = .ok (.putfield 455, 3) := dk_181 1 199 (dk_at dksX1_way_5 0 rfl rfl)
theorem dX1_way_119 : decode cX1_way 119 = .ok (.iload_n 3, 1) := dk_29 (dk_at dksX1_way_5 3 rfl rfl)
theorem dX1_way_120 : decode cX1_way 120 = .ok (.istore 5, 2) := dk_54 5 (dk_at dksX1_way_5 4 rfl rfl)
theorem dX1_way_122 : decode cX1_way 122 = .ok (.aload_n 0, 1) := dk_42 (dk_at dksX1_way_5 6 rfl rfl)
theorem dX1_way_123 : decode cX1_way 123 = .ok (.getfield 157, 3) := dk_180 0 157 (dk_at dksX1_way_5 7 rfl rfl)
theorem dX1_way_126 : decode cX1_way 126 = .ok (.iload 5, 2) := dk_21 5 (dk_at dksX1_way_5 10 rfl rfl)
theorem dX1_way_128 : decode cX1_way 128 = .ok (.iaload, 1) := dk_46 (dk_at dksX1_way_5 12 rfl rfl)
theorem dX1_way_129 : decode cX1_way 129 = .ok (.iload 5, 2) := dk_21 5 (dk_at dksX1_way_5 13 rfl rfl)
theorem dX1_way_131 : decode cX1_way 131 = .ok (.if_icmp .eq 32, 3) := dk_159 0 32 (dk_at dksX1_way_5 15 rfl rfl)
theorem dX1_way_134 : decode cX1_way 134 = .ok (.iinc 4 (-1), 3) := dk_132 4 255 (dk_at dksX1_way_5 18 rfl rfl)
theorem dX1_way_137 : decode cX1_way 137 = .ok (.aload_n 0, 1) := dk_42 (dk_at dksX1_way_5 21 rfl rfl)
theorem dX1_way_138 : decode cX1_way 138 = .ok (.getfield 166, 3) := dk_180 0 166 (dk_at dksX1_way_6 0 rfl rfl)
theorem dX1_way_141 : decode cX1_way 141 = .ok (.iload 4, 2) := dk_21 4 (dk_at dksX1_way_6 3 rfl rfl)
theorem dX1_way_143 : decode cX1_way 143 = .ok (.aload_n 0, 1) := dk_42 (dk_at dksX1_way_6 5 rfl rfl)
theorem dX1_way_144 : decode cX1_way 144 = .ok (.getfield 160, 3) := dk_180 0 160 (dk_at dksX1_way_6 6 rfl rfl)
theorem dX1_way_147 : decode cX1_way 147 = .ok (.iload 5, 2) := dk_21 5 (dk_at dksX1_way_6 9 rfl rfl)
theorem dX1_way_149 : decode cX1_way 149 = .ok (.iaload, 1) := dk_46 (dk_at dksX1_way_6 11 rfl rfl)
theorem dX1_way_150 : decode cX1_way 150 = .ok (.iastore, 1) := dk_79 (dk_at dksX1_way_6 12 rfl rfl)
theorem dX1_way_151 : decode cX1_way 151 = .ok (.aload_n 0, 1) := dk_42 (dk_at dksX1_way_6 13 rfl rfl)
theorem dX1_way_152 : decode cX1_way 152 = .ok (.getfield 157, 3) := dk_180 0 157 (dk_at dksX1_way_6 14 rfl rfl)
theorem dX1_way_155 : decode cX1_way 155 = .ok (.iload 5, 2) := dk_21 5 (dk_at dksX1_way_6 17 rfl rfl)
theorem dX1_way_157 : decode cX1_way 157 = .ok (.iaload, 1) := dk_46 (dk_at dksX1_way_6 19 rfl rfl)
theorem dX1_way_158 : decode cX1_way 158 = .ok (.istore 5, 2) := dk_54 5 (dk_at dksX1_way_6 20 rfl rfl)
theorem dX1_way_160 : decode cX1_way 160 = .ok (.goto (-38), 3) := dk_167 255 218 (dk_at dksX1_way_7 0 rfl rfl)
theorem dX1_way_163 : decode cX1_way 163 = .ok (.aload_n 0, 1) := dk_42 (dk_at dksX1_way_7 3 rfl rfl)
theorem dX1_way_164 : decode cX1_way 164 = .ok (.getfield 455, 3) := dk_180 1 199 (dk_at dksX1_way_7 4 rfl rfl)
theorem dX1_way_167 : decode cX1_way 167 = .ok (.ireturn, 1) := dk_172 (dk_at dksX1_way_7 7 rfl rfl)
theorem fp_X1_455 {nm : String} : gFp "BitingDoors" nm 455 [0] 39 .int := by
  intro args s hts hN ci hc
  simp only [List.mem_cons, List.not_mem_nil, or_false] at hc
  subst hc
  exact ⟨RX1, TX1, 46, "BitingDoors", gCl_X1, in_X1, by decide, Or.inl ⟨rfl, Or.inl (hts _ q540)⟩, fun _ h => h, rfl, fun D tys hK => gap_X1 hts hK⟩
theorem dn_X1_way : yX1_way.cls ≠ "java/lang/invoke/MethodHandle" ∧ yX1_way.cls ≠ "java/lang/invoke/VarHandle" ∧ (parseMethodDescriptor yX1_way.desc).map (fun d => d.parameters.length) = some 2 := by decide +kernel
noncomputable def M_X1_way (t : Nat) (p1 : Int32) (p2 : Int32) : Mo Int32 := Mo.bind (chk [0] t) (fun _ => Mo.bind (gR [0] t 9) (fun v1 => Mo.bind (gR [2] v1 0) (fun v2 => Mo.bind (M_X4_isCell v2 p1 p2) (fun v3 => cond v3 (Mo.bind (gR [0] t 9) (fun v4 => Mo.bind (gR [2] v4 0) (fun v5 => Mo.bind (M_X4_isOpen v5 ((10 * p2) + p1)) (fun v6 => cond v6 (Mo.bind (gR [0] t 9) (fun v7 => Mo.bind (gI [2] v7 3) (fun v8 => if v8 = (-1) then Mo.pure (-2) else Mo.bind (gR [0] t 9) (fun v9 => Mo.bind (gR [2] v9 0) (fun v10 => Mo.bind (gI [3] v10 6) (fun v11 => if v11 ≤ 5 then Mo.bind (M_X1_rings t ((10 * p2) + p1)) (fun v12 => if v12 = (-1) then Mo.pure (-1) else Mo.bind (Mo.loop (S := Int32 × Int32) (E := Int32) (fun s13 => Mo.bind (gR [0] t 34) (fun v17 => Mo.bind (aldI 0 v17 s13.2) (fun v18 => if v18 = s13.2 then Mo.pure (Sum.inr s13.1) else Mo.lv (s13.1 + 1) (fun v19 => Mo.bind (gR [0] t 34) (fun v20 => Mo.bind (aldI 0 v20 s13.2) (fun v21 => Mo.pure (Sum.inl (v19, v21)))))))) (0, v12)) (fun e16 => Mo.bind (pF [0] t 39 (.int e16)) (fun _ => Mo.bind (Mo.loop (S := Int32 × Int32) (E := Unit) (fun s22 => Mo.bind (gR [0] t 34) (fun v26 => Mo.bind (aldI 0 v26 s22.2) (fun v27 => if v27 = s22.2 then Mo.pure (Sum.inr ()) else Mo.lv (s22.1 + (-1)) (fun v28 => Mo.bind (gR [0] t 37) (fun v29 => Mo.bind (gR [0] t 35) (fun v30 => Mo.bind (aldI 0 v30 s22.2) (fun v31 => Mo.bind (astI 0 v29 v28 v31) (fun _ => Mo.bind (gR [0] t 34) (fun v32 => Mo.bind (aldI 0 v32 s22.2) (fun v33 => Mo.pure (Sum.inl (v28, v33)))))))))))) (e16, v12)) (fun e25 => Mo.bind (gI [0] t 39) (fun v34 => Mo.pure v34))))) else Mo.pure (-2))))))) (Mo.pure (-2)))))) (Mo.pure (-2))))))
set_option maxHeartbeats 4000000 in
theorem ct_X1_way (G : gG) (t : Nat) (p1 : Int32) (p2 : Int32) : gCt G yX1_way cX1_way 6 (some .int) 7 163 [.ref t, .int p1, .int p2] (M_X1_way t p1 p2) (fun x : Int32 => some (.int x)) := by
  refine gCt.of (by decide) (Nat.le_of_ble_eq_true rfl) (fun K r hG X hd ho => ?_)
  subst hG
  have X : gX K cX1_way 6 "BitingDoors" "way" (some .int) 7 163 := X
  have hle : gLe (kh1 K) (kh1 K) := gLe.rf
  show V K 6 (kh0 K) 0 [(0, .ref t), (1, .int p1), (2, .int p2)] []
  generalize kh0 K = h at hd ⊢
  unfold M_X1_way at hd
  obtain ⟨-, hd⟩ := chk_some hd
  refine v_aload_n X dX1_way_0 0 0 rfl rfl ?_
  refine v_getR X hd fl_X1_90 dX1_way_1 (fun v1 hd => ?_)
  refine v_getR X hd fl_X1_243 dX1_way_4 (fun v2 hd => ?_)
  refine v_iload_n X dX1_way_7 1 1 rfl rfl ?_
  refine v_iload_n X dX1_way_8 2 2 rfl rfl ?_
  refine v_callV X hd hle (ct_X4_isCell _ v2 p1 p2) gCl_X4 (lw_V q1110 q827 q828 q114 q829) ⟨rfl, dn_X4_isCell⟩ rfl ⟨by decide, by decide⟩ rfl (Nat.le_of_ble_eq_true rfl) dX1_way_9 (fun v3 h hd => ?_)
  show V K 6 h 12 [(0, .ref t), (1, .int p1), (2, .int p2)] [.int (b2i v3)]
  refine v_ifZ_eq (tgt := 59) X dX1_way_12 (by decide) (fun q => ?_) (fun q => ?_)
  · have hd := cnd_f q hd
    refine v_bipush (v := (-2)) X dX1_way_59 (by decide) ?_
    exact v_iret X hd ho dX1_way_61
  · have hd := cnd_t q hd
    refine v_aload_n X dX1_way_15 0 0 rfl rfl ?_
    refine v_getR X hd fl_X1_90 dX1_way_16 (fun v4 hd => ?_)
    refine v_getR X hd fl_X1_243 dX1_way_19 (fun v5 hd => ?_)
    refine v_bipush (v := 10) X dX1_way_22 (by decide) ?_
    refine v_iload_n X dX1_way_24 2 2 rfl rfl ?_
    refine v_imul X dX1_way_25 ?_
    refine v_iload_n X dX1_way_26 1 1 rfl rfl ?_
    refine v_iadd X dX1_way_27 ?_
    refine v_callV X hd hle (ct_X4_isOpen _ v5 ((10 * p2) + p1)) gCl_X4 (lw_V q1275 q1276 q1277 q114 q1278) ⟨rfl, dn_X4_isOpen⟩ rfl ⟨by decide, by decide⟩ rfl (Nat.le_of_ble_eq_true rfl) dX1_way_28 (fun v6 h hd => ?_)
    show V K 6 h 31 [(0, .ref t), (1, .int p1), (2, .int p2)] [.int (b2i v6)]
    refine v_ifZ_eq (tgt := 59) X dX1_way_31 (by decide) (fun q => ?_) (fun q => ?_)
    · have hd := cnd_f q hd
      refine v_bipush (v := (-2)) X dX1_way_59 (by decide) ?_
      exact v_iret X hd ho dX1_way_61
    · have hd := cnd_t q hd
      refine v_aload_n X dX1_way_34 0 0 rfl rfl ?_
      refine v_getR X hd fl_X1_90 dX1_way_35 (fun v7 hd => ?_)
      refine v_getI X hd fl_X1_418 dX1_way_38 (fun v8 hd => ?_)
      refine v_iconst (v := (-1)) X dX1_way_41 (by decide) ?_
      refine v_icmp_eq (tgt := 59) X dX1_way_42 (by decide) (fun q => ?_) (fun q => ?_)
      · have hd := ite_t q hd
        refine v_bipush (v := (-2)) X dX1_way_59 (by decide) ?_
        exact v_iret X hd ho dX1_way_61
      · have hd := ite_f q hd
        refine v_aload_n X dX1_way_45 0 0 rfl rfl ?_
        refine v_getR X hd fl_X1_90 dX1_way_46 (fun v9 hd => ?_)
        refine v_getR X hd fl_X1_243 dX1_way_49 (fun v10 hd => ?_)
        refine v_getI X hd fl_X1_247 dX1_way_52 (fun v11 hd => ?_)
        refine v_iconst (v := 5) X dX1_way_55 (by decide) ?_
        refine v_icmp_le (tgt := 62) X dX1_way_56 (by decide) (fun q => ?_) (fun q => ?_)
        · have hd := ite_t q hd
          refine v_aload_n X dX1_way_62 0 0 rfl rfl ?_
          refine v_bipush (v := 10) X dX1_way_63 (by decide) ?_
          refine v_iload_n X dX1_way_65 2 2 rfl rfl ?_
          refine v_imul X dX1_way_66 ?_
          refine v_iload_n X dX1_way_67 1 1 rfl rfl ?_
          refine v_iadd X dX1_way_68 ?_
          refine v_callV X hd hle (ct_X1_rings _ t ((10 * p2) + p1)) gCl_X1 (lw_V q1395 q1397 qs27 q109 q1398) ⟨rfl, dn_X1_rings⟩ rfl ⟨by decide, by decide⟩ rfl (Nat.le_of_ble_eq_true rfl) dX1_way_69 (fun v12 h hd => ?_)
          show V K 6 h 72 [(0, .ref t), (1, .int p1), (2, .int p2)] [.int v12]
          refine v_istore_n (lv2 := [(3, .int v12), (0, .ref t), (1, .int p1), (2, .int p2)]) X dX1_way_72 3 rfl (by decide) rfl ?_
          refine v_iload_n X dX1_way_73 0 3 rfl rfl ?_
          refine v_iconst (v := (-1)) X dX1_way_74 (by decide) ?_
          refine v_icmp_ne (tgt := 80) X dX1_way_75 (by decide) (fun q => ?_) (fun q => ?_)
          · have hd := ite_f q hd
            refine v_iconst (v := 0) X dX1_way_80 (by decide) ?_
            refine v_istore (lv2 := [(4, .int 0), (3, .int v12), (0, .ref t), (1, .int p1), (2, .int p2)]) X dX1_way_81 (by decide) rfl ?_
            refine v_iload_n X dX1_way_83 1 3 rfl rfl ?_
            refine v_istore (lv2 := [(5, .int v12), (4, .int 0), (3, .int v12), (0, .ref t), (1, .int p1), (2, .int p2)]) X dX1_way_84 (by decide) rfl ?_
            obtain ⟨e16, h1, hd, hd2⟩ := Mo.bind_some hd
            have KX : V K 6 h1 113 [(0, .ref t), (3, .int v12), (4, .int e16)] [] := by
              clear hd
              have hd := hd2
              refine v_aload_n X dX1_way_113 0 0 rfl rfl ?_
              refine v_iload X dX1_way_114 2 rfl ?_
              refine v_put (v := .int e16) X hd fp_X1_455 rfl rfl dX1_way_116 (fun h hd => ?_)
              refine v_iload_n X dX1_way_119 1 3 rfl rfl ?_
              refine v_istore (lv2 := [(5, .int v12), (0, .ref t), (3, .int v12), (4, .int e16)]) X dX1_way_120 (by decide) rfl ?_
              obtain ⟨e25, h1, hd, hd2⟩ := Mo.bind_some hd
              have KX : V K 6 h1 163 [(0, .ref t)] [] := by
                clear hd
                have hd := hd2
                refine v_aload_n X dX1_way_163 0 0 rfl rfl ?_
                refine v_getI X hd fl_X1_455 dX1_way_164 (fun v34 hd => ?_)
                exact v_iret X hd ho dX1_way_167
              have hle := (Mo.le hd2).tr hle
              clear hd2
              refine v_loc [1, 3, 0] rfl ?_
              refine loop_ind hd (fun (s22 : Int32 × Int32) h => V K 6 h 122 [(0, .ref t), (4, .int s22.1), (5, .int s22.2)] []) (fun s22 h x h2 hd hle0 ih23 ho24 => ?_)
              have hle := hle0.tr hle
              refine v_aload_n X dX1_way_122 0 0 rfl rfl ?_
              refine v_getR X hd fl_X1_157 dX1_way_123 (fun v26 hd => ?_)
              refine v_iload X dX1_way_126 2 rfl ?_
              refine v_iald X hd dX1_way_128 (fun v27 hd => ?_)
              refine v_iload X dX1_way_129 2 rfl ?_
              refine v_icmp_eq (tgt := 163) X dX1_way_131 (by decide) (fun q => ?_) (fun q => ?_)
              · have hd := ite_t q hd
                exact v_loc [0] rfl (v_at (P := fun (e25 : Unit) h => V K 6 h 163 [(0, .ref t)] []) (lp_out hd ho24) KX)
              · have hd := ite_f q hd
                refine v_iincL (lv2 := fun v28 => [(4, .int v28), (0, .ref t), (5, .int s22.2)]) X hd dX1_way_134 1 rfl (by decide : Int32.ofInt (-1) = (-1)) (by decide) (fun v28 => rfl) (fun v28 hd => ?_)
                refine v_aload_n X dX1_way_137 1 0 rfl rfl ?_
                refine v_getR X hd fl_X1_166 dX1_way_138 (fun v29 hd => ?_)
                refine v_iload X dX1_way_141 0 rfl ?_
                refine v_aload_n X dX1_way_143 1 0 rfl rfl ?_
                refine v_getR X hd fl_X1_160 dX1_way_144 (fun v30 hd => ?_)
                refine v_iload X dX1_way_147 2 rfl ?_
                refine v_iald X hd dX1_way_149 (fun v31 hd => ?_)
                refine v_iast X hd dX1_way_150 (fun h hd => ?_)
                refine v_aload_n X dX1_way_151 1 0 rfl rfl ?_
                refine v_getR X hd fl_X1_157 dX1_way_152 (fun v32 hd => ?_)
                refine v_iload X dX1_way_155 2 rfl ?_
                refine v_iald X hd dX1_way_157 (fun v33 hd => ?_)
                refine v_istore (lv2 := [(5, .int v33), (4, .int v28), (0, .ref t)]) X dX1_way_158 (by decide) rfl ?_
                refine v_goto (tgt := 122) X dX1_way_160 (by decide) ?_
                exact v_loc [2, 1, 0] rfl (lp_in (P := fun (s22 : Int32 × Int32) h => V K 6 h 122 [(0, .ref t), (4, .int s22.1), (5, .int s22.2)] []) hd ih23)
            have hle := (Mo.le hd2).tr hle
            clear hd2
            refine v_loc [3, 2, 1, 0] rfl ?_
            refine loop_ind hd (fun (s13 : Int32 × Int32) h => V K 6 h 86 [(0, .ref t), (3, .int v12), (4, .int s13.1), (5, .int s13.2)] []) (fun s13 h x h2 hd hle0 ih14 ho15 => ?_)
            have hle := hle0.tr hle
            refine v_aload_n X dX1_way_86 0 0 rfl rfl ?_
            refine v_getR X hd fl_X1_157 dX1_way_87 (fun v17 hd => ?_)
            refine v_iload X dX1_way_90 3 rfl ?_
            refine v_iald X hd dX1_way_92 (fun v18 hd => ?_)
            refine v_iload X dX1_way_93 3 rfl ?_
            refine v_icmp_eq (tgt := 113) X dX1_way_95 (by decide) (fun q => ?_) (fun q => ?_)
            · have hd := ite_t q hd
              exact v_loc [0, 1, 2] rfl (v_at (P := fun (e16 : Int32) h => V K 6 h 113 [(0, .ref t), (3, .int v12), (4, .int e16)] []) (lp_out hd ho15) KX)
            · have hd := ite_f q hd
              refine v_iincL (lv2 := fun v19 => [(4, .int v19), (0, .ref t), (3, .int v12), (5, .int s13.2)]) X hd dX1_way_98 2 rfl (by decide : Int32.ofInt 1 = 1) (by decide) (fun v19 => rfl) (fun v19 hd => ?_)
              refine v_aload_n X dX1_way_101 1 0 rfl rfl ?_
              refine v_getR X hd fl_X1_157 dX1_way_102 (fun v20 hd => ?_)
              refine v_iload X dX1_way_105 3 rfl ?_
              refine v_iald X hd dX1_way_107 (fun v21 hd => ?_)
              refine v_istore (lv2 := [(5, .int v21), (4, .int v19), (0, .ref t), (3, .int v12)]) X dX1_way_108 (by decide) rfl ?_
              refine v_goto (tgt := 86) X dX1_way_110 (by decide) ?_
              exact v_loc [2, 3, 1, 0] rfl (lp_in (P := fun (s13 : Int32 × Int32) h => V K 6 h 86 [(0, .ref t), (3, .int v12), (4, .int s13.1), (5, .int s13.2)] []) hd ih14)
          · have hd := ite_t q hd
            refine v_iconst (v := (-1)) X dX1_way_78 (by decide) ?_
            exact v_iret X hd ho dX1_way_79
        · have hd := ite_f q hd
          refine v_bipush (v := (-2)) X dX1_way_59 (by decide) ?_
          exact v_iret X hd ho dX1_way_61
def dkwX3_begin_2 : List UInt8 := [132, 2, 1, 167, 255, 213, 42, 43, 180, 0, 40, 181, 0, 25, 177]
abbrev dktX3_begin_2 : List UInt8 := dkwX3_begin_2 ++ []
def dkwX3_begin_1 : List UInt8 := [162, 0, 15, 43, 180, 0, 32, 28, 50, 180, 0, 36, 167, 0, 4, 3, 79, 42, 180, 0, 22, 28, 3, 79]
abbrev dktX3_begin_1 : List UInt8 := dkwX3_begin_1 ++ dktX3_begin_2
def dkwX3_begin_0 : List UInt8 := [42, 43, 181, 0, 12, 3, 61, 28, 16, 10, 162, 0, 43, 42, 180, 0, 18, 28, 28, 43, 180, 0, 29]
abbrev dktX3_begin_0 : List UInt8 := dkwX3_begin_0 ++ dktX3_begin_1
theorem dksX3_begin_0 : cX3_begin.data.toList.drop 0 = dktX3_begin_0 := by decide +kernel
theorem dksX3_begin_1 : cX3_begin.data.toList.drop 23 = dktX3_begin_1 := dk_seg dksX3_begin_0 23 rfl rfl
theorem dksX3_begin_2 : cX3_begin.data.toList.drop 47 = dktX3_begin_2 := dk_seg dksX3_begin_1 24 rfl rfl
theorem dX3_begin_0 : decode cX3_begin 0 = .ok (.aload_n 0, 1) := dk_42 (dk_at dksX3_begin_0 0 rfl rfl)
theorem dX3_begin_1 : decode cX3_begin 1 = .ok (.aload_n 1, 1) := dk_43 (dk_at dksX3_begin_0 1 rfl rfl)
theorem dX3_begin_2 : decode cX3_begin 2 = .ok (.putfield 12, 3) := dk_181 0 12 (dk_at dksX3_begin_0 2 rfl rfl)
theorem dX3_begin_5 : decode cX3_begin 5 = .ok (.iconst 0, 1) := dk_3 (dk_at dksX3_begin_0 5 rfl rfl)
theorem dX3_begin_6 : decode cX3_begin 6 = .ok (.istore_n 2, 1) := dk_61 (dk_at dksX3_begin_0 6 rfl rfl)
theorem dX3_begin_7 : decode cX3_begin 7 = .ok (.iload_n 2, 1) := dk_28 (dk_at dksX3_begin_0 7 rfl rfl)
theorem dX3_begin_8 : decode cX3_begin 8 = .ok (.bipush 10, 2) := dk_16 10 (dk_at dksX3_begin_0 8 rfl rfl)
theorem dX3_begin_10 : decode cX3_begin 10 = .ok (.if_icmp .ge 43, 3) := dk_162 0 43 (dk_at dksX3_begin_0 10 rfl rfl)
theorem dX3_begin_13 : decode cX3_begin 13 = .ok (.aload_n 0, 1) := dk_42 (dk_at dksX3_begin_0 13 rfl rfl)
theorem dX3_begin_14 : decode cX3_begin 14 = .ok (.getfield 18, 3) := dk_180 0 18 (dk_at dksX3_begin_0 14 rfl rfl)
theorem dX3_begin_17 : decode cX3_begin 17 = .ok (.iload_n 2, 1) := dk_28 (dk_at dksX3_begin_0 17 rfl rfl)
theorem dX3_begin_18 : decode cX3_begin 18 = .ok (.iload_n 2, 1) := dk_28 (dk_at dksX3_begin_0 18 rfl rfl)
theorem dX3_begin_19 : decode cX3_begin 19 = .ok (.aload_n 1, 1) := dk_43 (dk_at dksX3_begin_0 19 rfl rfl)
theorem dX3_begin_20 : decode cX3_begin 20 = .ok (.getfield 29, 3) := dk_180 0 29 (dk_at dksX3_begin_0 20 rfl rfl)
theorem dX3_begin_23 : decode cX3_begin 23 = .ok (.if_icmp .ge 15, 3) := dk_162 0 15 (dk_at dksX3_begin_1 0 rfl rfl)
theorem dX3_begin_26 : decode cX3_begin 26 = .ok (.aload_n 1, 1) := dk_43 (dk_at dksX3_begin_1 3 rfl rfl)
theorem dX3_begin_27 : decode cX3_begin 27 = .ok (.getfield 32, 3) := dk_180 0 32 (dk_at dksX3_begin_1 4 rfl rfl)
theorem dX3_begin_30 : decode cX3_begin 30 = .ok (.iload_n 2, 1) := dk_28 (dk_at dksX3_begin_1 7 rfl rfl)
theorem dX3_begin_31 : decode cX3_begin 31 = .ok (.aaload, 1) := dk_50 (dk_at dksX3_begin_1 8 rfl rfl)
theorem dX3_begin_32 : decode cX3_begin 32 = .ok (.getfield 36, 3) := dk_180 0 36 (dk_at dksX3_begin_1 9 rfl rfl)
theorem dX3_begin_35 : decode cX3_begin 35 = .ok (.goto 4, 3) := dk_167 0 4 (dk_at dksX3_begin_1 12 rfl rfl)
theorem dX3_begin_38 : decode cX3_begin 38 = .ok (.iconst 0, 1) := dk_3 (dk_at dksX3_begin_1 15 rfl rfl)
theorem dX3_begin_39 : decode cX3_begin 39 = .ok (.iastore, 1) := dk_79 (dk_at dksX3_begin_1 16 rfl rfl)
theorem dX3_begin_40 : decode cX3_begin 40 = .ok (.aload_n 0, 1) := dk_42 (dk_at dksX3_begin_1 17 rfl rfl)
theorem dX3_begin_41 : decode cX3_begin 41 = .ok (.getfield 22, 3) := dk_180 0 22 (dk_at dksX3_begin_1 18 rfl rfl)
theorem dX3_begin_44 : decode cX3_begin 44 = .ok (.iload_n 2, 1) := dk_28 (dk_at dksX3_begin_1 21 rfl rfl)
theorem dX3_begin_45 : decode cX3_begin 45 = .ok (.iconst 0, 1) := dk_3 (dk_at dksX3_begin_1 22 rfl rfl)
theorem dX3_begin_46 : decode cX3_begin 46 = .ok (.iastore, 1) := dk_79 (dk_at dksX3_begin_1 23 rfl rfl)
theorem dX3_begin_47 : decode cX3_begin 47 = .ok (.iinc 2 1, 3) := dk_132 2 1 (dk_at dksX3_begin_2 0 rfl rfl)
theorem dX3_begin_50 : decode cX3_begin 50 = .ok (.goto (-43), 3) := dk_167 255 213 (dk_at dksX3_begin_2 3 rfl rfl)
theorem dX3_begin_53 : decode cX3_begin 53 = .ok (.aload_n 0, 1) := dk_42 (dk_at dksX3_begin_2 6 rfl rfl)
theorem dX3_begin_54 : decode cX3_begin 54 = .ok (.aload_n 1, 1) := dk_43 (dk_at dksX3_begin_2 7 rfl rfl)
theorem dX3_begin_55 : decode cX3_begin 55 = .ok (.getfield 40, 3) := dk_180 0 40 (dk_at dksX3_begin_2 8 rfl rfl)
theorem dX3_begin_58 : decode cX3_begin 58 = .ok (.putfield 25, 3) := dk_181 0 25 (dk_at dksX3_begin_2 11 rfl rfl)
theorem dX3_begin_61 : decode cX3_begin 61 = .ok (.return_, 1) := dk_177 (dk_at dksX3_begin_2 14 rfl rfl)
theorem fl_X3_36 : gFl "BitingDoors$Walker" 36 [9] 8 := by
  intro args s hts hN ci hc
  simp only [List.mem_cons, List.not_mem_nil, or_false] at hc
  subst hc
  exact ⟨RX11, TX11, 12, "BitingDoors$Door", gCl_X11, in_X11, by decide, Or.inr ⟨"BitingDoors", va_Nw.use rfl (hN.1 ("BitingDoors$Walker", 36, "BitingDoors$Door", "hanging", "I", "BitingDoors") (List.mem_of_getElem? (i := 30) rfl))⟩, fun _ h => h⟩
theorem fl_X3_40 : gFl "BitingDoors$Walker" 40 [3] 8 := by
  intro args s hts hN ci hc
  simp only [List.mem_cons, List.not_mem_nil, or_false] at hc
  subst hc
  exact ⟨RX4, TX4, 9, "BitingDoors$House", gCl_X4, in_X4, by decide, Or.inr ⟨"BitingDoors", va_Nw.use rfl (hN.1 ("BitingDoors$Walker", 40, "BitingDoors$House", "bed", "I", "BitingDoors") (List.mem_of_getElem? (i := 29) rfl))⟩, fun _ h => h⟩
theorem dn_X3_begin : yX3_begin.cls ≠ "java/lang/invoke/MethodHandle" ∧ yX3_begin.cls ≠ "java/lang/invoke/VarHandle" ∧ (parseMethodDescriptor yX3_begin.desc).map (fun d => d.parameters.length) = some 1 := by decide +kernel
noncomputable def M_X3_begin (t : Nat) (p1 : Nat) : Mo Unit := Mo.bind (chk [2] t) (fun _ => Mo.bind (pF [2] t 0 (.ref p1)) (fun _ => Mo.bind (Mo.loop (S := Int32) (E := Unit) (fun s1 => if 10 ≤ s1 then Mo.pure (Sum.inr ()) else Mo.bind (gR [2] t 1) (fun v5 => Mo.bind (gI [3] p1 6) (fun v6 => Mo.bind ((if v6 ≤ s1 then Mo.pure 0 else Mo.bind (gR [3] p1 2) (fun v10 => Mo.bind (aldR 5 v10 s1) (fun v11 => Mo.bind (gI [9] v11 8) (fun v12 => Mo.pure v12))) : Mo (Int32))) (fun u7 => Mo.bind (astI 0 v5 s1 u7) (fun _ => Mo.bind (gR [2] t 2) (fun v8 => Mo.bind (astI 0 v8 s1 0) (fun _ => Mo.lv (s1 + 1) (fun v9 => Mo.pure (Sum.inl v9))))))))) 0) (fun e4 => Mo.bind (gI [3] p1 8) (fun v13 => Mo.bind (pF [2] t 3 (.int v13)) (fun _ => Mo.pure ())))))
set_option maxHeartbeats 4000000 in
theorem ct_X3_begin (G : gG) (t : Nat) (p1 : Nat) : gCt G yX3_begin cX3_begin 3 none 0 0 [.ref t, .ref p1] (M_X3_begin t p1) (fun _ : Unit => none) := by
  refine gCt.of (by decide) (Nat.le_of_ble_eq_true rfl) (fun K r hG X hd ho => ?_)
  subst hG
  have X : gX K cX3_begin 3 "BitingDoors$Walker" "begin" none 0 0 := X
  have hle : gLe (kh1 K) (kh1 K) := gLe.rf
  show V K 3 (kh0 K) 0 [(0, .ref t), (1, .ref p1)] []
  generalize kh0 K = h at hd ⊢
  unfold M_X3_begin at hd
  obtain ⟨-, hd⟩ := chk_some hd
  refine v_aload_n X dX3_begin_0 0 0 rfl rfl ?_
  refine v_aload_n X dX3_begin_1 1 1 rfl rfl ?_
  refine v_put (v := .ref p1) X hd fp_X3_12 rfl rfl dX3_begin_2 (fun h hd => ?_)
  refine v_iconst (v := 0) X dX3_begin_5 (by decide) ?_
  refine v_istore_n (lv2 := [(2, .int 0), (0, .ref t), (1, .ref p1)]) X dX3_begin_6 2 rfl (by decide) rfl ?_
  obtain ⟨e4, h1, hd, hd2⟩ := Mo.bind_some hd
  have KX : V K 3 h1 53 [(0, .ref t), (1, .ref p1)] [] := by
    clear hd
    have hd := hd2
    refine v_aload_n X dX3_begin_53 0 0 rfl rfl ?_
    refine v_aload_n X dX3_begin_54 1 1 rfl rfl ?_
    refine v_getI X hd fl_X3_40 dX3_begin_55 (fun v13 hd => ?_)
    refine v_put (v := .int v13) X hd fp_X3_25 rfl rfl dX3_begin_58 (fun h hd => ?_)
    exact v_vret X hd ho dX3_begin_61
  have hle := (Mo.le hd2).tr hle
  clear hd2
  refine v_loc [1, 2, 0] rfl ?_
  refine loop_ind hd (fun (s1 : Int32) h => V K 3 h 7 [(0, .ref t), (1, .ref p1), (2, .int s1)] []) (fun s1 h x h2 hd hle0 ih2 ho3 => ?_)
  have hle := hle0.tr hle
  refine v_iload_n X dX3_begin_7 2 2 rfl rfl ?_
  refine v_bipush (v := 10) X dX3_begin_8 (by decide) ?_
  refine v_icmp_ge (tgt := 53) X dX3_begin_10 (by decide) (fun q => ?_) (fun q => ?_)
  · have hd := ite_t q hd
    exact v_loc [0, 1] rfl (v_at (P := fun (e4 : Unit) h => V K 3 h 53 [(0, .ref t), (1, .ref p1)] []) (lp_out hd ho3) KX)
  · have hd := ite_f q hd
    refine v_aload_n X dX3_begin_13 0 0 rfl rfl ?_
    refine v_getR X hd fl_X3_18 dX3_begin_14 (fun v5 hd => ?_)
    refine v_iload_n X dX3_begin_17 2 2 rfl rfl ?_
    refine v_iload_n X dX3_begin_18 2 2 rfl rfl ?_
    refine v_aload_n X dX3_begin_19 1 1 rfl rfl ?_
    refine v_getI X hd fl_X3_29 dX3_begin_20 (fun v6 hd => ?_)
    obtain ⟨u7, h1, hd, hd2⟩ := Mo.bind_some hd
    have KJ : V K 3 h1 39 [(0, .ref t), (1, .ref p1), (2, .int s1)] [.int u7, .int s1, .ref v5] := by
      clear hd
      have hd := hd2
      refine v_iast X hd dX3_begin_39 (fun h hd => ?_)
      refine v_aload_n X dX3_begin_40 0 0 rfl rfl ?_
      refine v_getR X hd fl_X3_22 dX3_begin_41 (fun v8 hd => ?_)
      refine v_iload_n X dX3_begin_44 2 2 rfl rfl ?_
      refine v_iconst (v := 0) X dX3_begin_45 (by decide) ?_
      refine v_iast X hd dX3_begin_46 (fun h hd => ?_)
      refine v_iincL (lv2 := fun v9 => [(2, .int v9), (0, .ref t), (1, .ref p1)]) X hd dX3_begin_47 2 rfl (by decide : Int32.ofInt 1 = 1) (by decide) (fun v9 => rfl) (fun v9 hd => ?_)
      refine v_goto (tgt := 7) X dX3_begin_50 (by decide) ?_
      exact v_loc [1, 2, 0] rfl (lp_in (P := fun (s1 : Int32) h => V K 3 h 7 [(0, .ref t), (1, .ref p1), (2, .int s1)] []) hd ih2)
    have hle := (Mo.le hd2).tr hle
    clear hd2
    refine v_icmp_ge (tgt := 38) X dX3_begin_23 (by decide) (fun q => ?_) (fun q => ?_)
    · have hd := ite_t q hd
      refine v_iconst (v := 0) X dX3_begin_38 (by decide) ?_
      exact v_loc [0, 1, 2] rfl (v_at (P := fun (u7 : Int32) h => V K 3 h 39 [(0, .ref t), (1, .ref p1), (2, .int s1)] [.int u7, .int s1, .ref v5]) hd KJ)
    · have hd := ite_f q hd
      refine v_aload_n X dX3_begin_26 1 1 rfl rfl ?_
      refine v_getR X hd fl_X3_32 dX3_begin_27 (fun v10 hd => ?_)
      refine v_iload_n X dX3_begin_30 2 2 rfl rfl ?_
      refine v_aldR X hd 5 rfl (by decide) (by decide) dX3_begin_31 (fun v11 hd => ?_)
      refine v_getI X hd fl_X3_36 dX3_begin_32 (fun v12 hd => ?_)
      refine v_goto (tgt := 39) X dX3_begin_35 (by decide) ?_
      exact v_loc [0, 1, 2] rfl (v_at (P := fun (u7 : Int32) h => V K 3 h 39 [(0, .ref t), (1, .ref p1), (2, .int s1)] [.int u7, .int s1, .ref v5]) hd KJ)
def dkwX1_stride_3 : List UInt8 := [21, 4, 159, 0, 18, 132, 3, 1, 42, 180, 0, 157, 21, 4, 46, 54, 4, 167, 255, 232, 29, 172]
abbrev dktX1_stride_3 : List UInt8 := dkwX1_stride_3 ++ []
def dkwX1_stride_2 : List UInt8 := [182, 1, 196, 61, 28, 2, 160, 0, 5, 2, 172, 3, 62, 28, 54, 4, 42, 180, 0, 157, 21, 4, 46]
abbrev dktX1_stride_2 : List UInt8 := dkwX1_stride_2 ++ dktX1_stride_3
def dkwX1_stride_1 : List UInt8 := [159, 0, 17, 42, 180, 0, 90, 180, 0, 243, 180, 0, 247, 8, 164, 0, 6, 16, 254, 172, 42, 27]
abbrev dktX1_stride_1 : List UInt8 := dkwX1_stride_1 ++ dktX1_stride_2
def dkwX1_stride_0 : List UInt8 := [42, 180, 0, 90, 180, 0, 243, 180, 1, 211, 60, 27, 2, 159, 0, 28, 42, 180, 0, 90, 180, 1, 162, 2]
abbrev dktX1_stride_0 : List UInt8 := dkwX1_stride_0 ++ dktX1_stride_1
theorem dksX1_stride_0 : cX1_stride.data.toList.drop 0 = dktX1_stride_0 := by decide +kernel
theorem dksX1_stride_1 : cX1_stride.data.toList.drop 24 = dktX1_stride_1 := dk_seg dksX1_stride_0 24 rfl rfl
theorem dksX1_stride_2 : cX1_stride.data.toList.drop 46 = dktX1_stride_2 := dk_seg dksX1_stride_1 22 rfl rfl
theorem dksX1_stride_3 : cX1_stride.data.toList.drop 69 = dktX1_stride_3 := dk_seg dksX1_stride_2 23 rfl rfl
theorem dX1_stride_0 : decode cX1_stride 0 = .ok (.aload_n 0, 1) := dk_42 (dk_at dksX1_stride_0 0 rfl rfl)
theorem dX1_stride_1 : decode cX1_stride 1 = .ok (.getfield 90, 3) := dk_180 0 90 (dk_at dksX1_stride_0 1 rfl rfl)
theorem dX1_stride_4 : decode cX1_stride 4 = .ok (.getfield 243, 3) := dk_180 0 243 (dk_at dksX1_stride_0 4 rfl rfl)
theorem dX1_stride_7 : decode cX1_stride 7 = .ok (.getfield 467, 3) := dk_180 1 211 (dk_at dksX1_stride_0 7 rfl rfl)
theorem dX1_stride_10 : decode cX1_stride 10 = .ok (.istore_n 1, 1) := dk_60 (dk_at dksX1_stride_0 10 rfl rfl)
theorem dX1_stride_11 : decode cX1_stride 11 = .ok (.iload_n 1, 1) := dk_27 (dk_at dksX1_stride_0 11 rfl rfl)
theorem dX1_stride_12 : decode cX1_stride 12 = .ok (.iconst (-1), 1) := dk_2 (dk_at dksX1_stride_0 12 rfl rfl)
theorem dX1_stride_13 : decode cX1_stride 13 = .ok (.if_icmp .eq 28, 3) := dk_159 0 28 (dk_at dksX1_stride_0 13 rfl rfl)
theorem dX1_stride_16 : decode cX1_stride 16 = .ok (.aload_n 0, 1) := dk_42 (dk_at dksX1_stride_0 16 rfl rfl)
theorem dX1_stride_17 : decode cX1_stride 17 = .ok (.getfield 90, 3) := dk_180 0 90 (dk_at dksX1_stride_0 17 rfl rfl)
theorem dX1_stride_20 : decode cX1_stride 20 = .ok (.getfield 418, 3) := dk_180 1 162 (dk_at dksX1_stride_0 20 rfl rfl)
theorem dX1_stride_23 : decode cX1_stride 23 = .ok (.iconst (-1), 1) := dk_2 (dk_at dksX1_stride_0 23 rfl rfl)
theorem dX1_stride_24 : decode cX1_stride 24 = .ok (.if_icmp .eq 17, 3) := dk_159 0 17 (dk_at dksX1_stride_1 0 rfl rfl)
theorem dX1_stride_27 : decode cX1_stride 27 = .ok (.aload_n 0, 1) := dk_42 (dk_at dksX1_stride_1 3 rfl rfl)
theorem dX1_stride_28 : decode cX1_stride 28 = .ok (.getfield 90, 3) := dk_180 0 90 (dk_at dksX1_stride_1 4 rfl rfl)
theorem dX1_stride_31 : decode cX1_stride 31 = .ok (.getfield 243, 3) := dk_180 0 243 (dk_at dksX1_stride_1 7 rfl rfl)
theorem dX1_stride_34 : decode cX1_stride 34 = .ok (.getfield 247, 3) := dk_180 0 247 (dk_at dksX1_stride_1 10 rfl rfl)
theorem dX1_stride_37 : decode cX1_stride 37 = .ok (.iconst 5, 1) := dk_8 (dk_at dksX1_stride_1 13 rfl rfl)
theorem dX1_stride_38 : decode cX1_stride 38 = .ok (.if_icmp .le 6, 3) := dk_164 0 6 (dk_at dksX1_stride_1 14 rfl rfl)
theorem dX1_stride_41 : decode cX1_stride 41 = .ok (.bipush (-2), 2) := dk_16 254 (dk_at dksX1_stride_1 17 rfl rfl)
theorem dX1_stride_43 : decode cX1_stride 43 = .ok (.ireturn, 1) := dk_172 (dk_at dksX1_stride_1 19 rfl rfl)
theorem dX1_stride_44 : decode cX1_stride 44 = .ok (.aload_n 0, 1) := dk_42 (dk_at dksX1_stride_1 20 rfl rfl)
theorem dX1_stride_45 : decode cX1_stride 45 = .ok (.iload_n 1, 1) := dk_27 (dk_at dksX1_stride_1 21 rfl rfl)
theorem dX1_stride_46 : decode cX1_stride 46 = .ok (.invokevirtual 452, 3) := dk_182 1 196 (dk_at dksX1_stride_2 0 rfl rfl)
theorem dX1_stride_49 : decode cX1_stride 49 = .ok (.istore_n 2, 1) := dk_61 (dk_at dksX1_stride_2 3 rfl rfl)
theorem dX1_stride_50 : decode cX1_stride 50 = .ok (.iload_n 2, 1) := dk_28 (dk_at dksX1_stride_2 4 rfl rfl)
theorem dX1_stride_51 : decode cX1_stride 51 = .ok (.iconst (-1), 1) := dk_2 (dk_at dksX1_stride_2 5 rfl rfl)
theorem dX1_stride_52 : decode cX1_stride 52 = .ok (.if_icmp .ne 5, 3) := dk_160 0 5 (dk_at dksX1_stride_2 6 rfl rfl)
theorem dX1_stride_55 : decode cX1_stride 55 = .ok (.iconst (-1), 1) := dk_2 (dk_at dksX1_stride_2 9 rfl rfl)
theorem dX1_stride_56 : decode cX1_stride 56 = .ok (.ireturn, 1) := dk_172 (dk_at dksX1_stride_2 10 rfl rfl)
theorem dX1_stride_57 : decode cX1_stride 57 = .ok (.iconst 0, 1) := dk_3 (dk_at dksX1_stride_2 11 rfl rfl)
theorem dX1_stride_58 : decode cX1_stride 58 = .ok (.istore_n 3, 1) := dk_62 (dk_at dksX1_stride_2 12 rfl rfl)
theorem dX1_stride_59 : decode cX1_stride 59 = .ok (.iload_n 2, 1) := dk_28 (dk_at dksX1_stride_2 13 rfl rfl)
theorem dX1_stride_60 : decode cX1_stride 60 = .ok (.istore 4, 2) := dk_54 4 (dk_at dksX1_stride_2 14 rfl rfl)
theorem dX1_stride_62 : decode cX1_stride 62 = .ok (.aload_n 0, 1) := dk_42 (dk_at dksX1_stride_2 16 rfl rfl)
theorem dX1_stride_63 : decode cX1_stride 63 = .ok (.getfield 157, 3) := dk_180 0 157 (dk_at dksX1_stride_2 17 rfl rfl)
theorem dX1_stride_66 : decode cX1_stride 66 = .ok (.iload 4, 2) := dk_21 4 (dk_at dksX1_stride_2 20 rfl rfl)
theorem dX1_stride_68 : decode cX1_stride 68 = .ok (.iaload, 1) := dk_46 (dk_at dksX1_stride_2 22 rfl rfl)
theorem dX1_stride_69 : decode cX1_stride 69 = .ok (.iload 4, 2) := dk_21 4 (dk_at dksX1_stride_3 0 rfl rfl)
theorem dX1_stride_71 : decode cX1_stride 71 = .ok (.if_icmp .eq 18, 3) := dk_159 0 18 (dk_at dksX1_stride_3 2 rfl rfl)
theorem dX1_stride_74 : decode cX1_stride 74 = .ok (.iinc 3 1, 3) := dk_132 3 1 (dk_at dksX1_stride_3 5 rfl rfl)
theorem dX1_stride_77 : decode cX1_stride 77 = .ok (.aload_n 0, 1) := dk_42 (dk_at dksX1_stride_3 8 rfl rfl)
theorem dX1_stride_78 : decode cX1_stride 78 = .ok (.getfield 157, 3) := dk_180 0 157 (dk_at dksX1_stride_3 9 rfl rfl)
theorem dX1_stride_81 : decode cX1_stride 81 = .ok (.iload 4, 2) := dk_21 4 (dk_at dksX1_stride_3 12 rfl rfl)
theorem dX1_stride_83 : decode cX1_stride 83 = .ok (.iaload, 1) := dk_46 (dk_at dksX1_stride_3 14 rfl rfl)
theorem dX1_stride_84 : decode cX1_stride 84 = .ok (.istore 4, 2) := dk_54 4 (dk_at dksX1_stride_3 15 rfl rfl)
theorem dX1_stride_86 : decode cX1_stride 86 = .ok (.goto (-24), 3) := dk_167 255 232 (dk_at dksX1_stride_3 17 rfl rfl)
theorem dX1_stride_89 : decode cX1_stride 89 = .ok (.iload_n 3, 1) := dk_29 (dk_at dksX1_stride_3 20 rfl rfl)
theorem dX1_stride_90 : decode cX1_stride 90 = .ok (.ireturn, 1) := dk_172 (dk_at dksX1_stride_3 21 rfl rfl)
theorem fl_X1_467 : gFl "BitingDoors" 467 [3] 8 := by
  intro args s hts hN ci hc
  simp only [List.mem_cons, List.not_mem_nil, or_false] at hc
  subst hc
  exact ⟨RX4, TX4, 9, "BitingDoors$House", gCl_X4, in_X4, by decide, Or.inr ⟨"BitingDoors", va_Nw.use rfl (hN.1 ("BitingDoors", 467, "BitingDoors$House", "bed", "I", "BitingDoors") (List.mem_of_getElem? (i := 6) rfl))⟩, fun _ h => h⟩
theorem dn_X1_stride : yX1_stride.cls ≠ "java/lang/invoke/MethodHandle" ∧ yX1_stride.cls ≠ "java/lang/invoke/VarHandle" ∧ (parseMethodDescriptor yX1_stride.desc).map (fun d => d.parameters.length) = some 0 := by decide +kernel
noncomputable def M_X1_stride (t : Nat) : Mo Int32 := Mo.bind (chk [0] t) (fun _ => Mo.bind (gR [0] t 9) (fun v1 => Mo.bind (gR [2] v1 0) (fun v2 => Mo.bind (gI [3] v2 8) (fun v3 => if v3 = (-1) then Mo.pure (-2) else Mo.bind (gR [0] t 9) (fun v4 => Mo.bind (gI [2] v4 3) (fun v5 => if v5 = (-1) then Mo.pure (-2) else Mo.bind (gR [0] t 9) (fun v6 => Mo.bind (gR [2] v6 0) (fun v7 => Mo.bind (gI [3] v7 6) (fun v8 => if v8 ≤ 5 then Mo.bind (M_X1_rings t v3) (fun v9 => if v9 = (-1) then Mo.pure (-1) else Mo.bind (Mo.loop (S := Int32 × Int32) (E := Int32) (fun s10 => Mo.bind (gR [0] t 34) (fun v14 => Mo.bind (aldI 0 v14 s10.2) (fun v15 => if v15 = s10.2 then Mo.pure (Sum.inr s10.1) else Mo.lv (s10.1 + 1) (fun v16 => Mo.bind (gR [0] t 34) (fun v17 => Mo.bind (aldI 0 v17 s10.2) (fun v18 => Mo.pure (Sum.inl (v16, v18)))))))) (0, v9)) (fun e13 => Mo.pure e13)) else Mo.pure (-2))))))))))
set_option maxHeartbeats 4000000 in
theorem ct_X1_stride (G : gG) (t : Nat) : gCt G yX1_stride cX1_stride 5 (some .int) 7 163 [.ref t] (M_X1_stride t) (fun x : Int32 => some (.int x)) := by
  refine gCt.of (by decide) (Nat.le_of_ble_eq_true rfl) (fun K r hG X hd ho => ?_)
  subst hG
  have X : gX K cX1_stride 5 "BitingDoors" "stride" (some .int) 7 163 := X
  have hle : gLe (kh1 K) (kh1 K) := gLe.rf
  show V K 5 (kh0 K) 0 [(0, .ref t)] []
  generalize kh0 K = h at hd ⊢
  unfold M_X1_stride at hd
  obtain ⟨-, hd⟩ := chk_some hd
  refine v_aload_n X dX1_stride_0 0 0 rfl rfl ?_
  refine v_getR X hd fl_X1_90 dX1_stride_1 (fun v1 hd => ?_)
  refine v_getR X hd fl_X1_243 dX1_stride_4 (fun v2 hd => ?_)
  refine v_getI X hd fl_X1_467 dX1_stride_7 (fun v3 hd => ?_)
  refine v_istore_n (lv2 := [(1, .int v3), (0, .ref t)]) X dX1_stride_10 1 rfl (by decide) rfl ?_
  refine v_iload_n X dX1_stride_11 0 1 rfl rfl ?_
  refine v_iconst (v := (-1)) X dX1_stride_12 (by decide) ?_
  refine v_icmp_eq (tgt := 41) X dX1_stride_13 (by decide) (fun q => ?_) (fun q => ?_)
  · have hd := ite_t q hd
    refine v_bipush (v := (-2)) X dX1_stride_41 (by decide) ?_
    exact v_iret X hd ho dX1_stride_43
  · have hd := ite_f q hd
    refine v_aload_n X dX1_stride_16 1 0 rfl rfl ?_
    refine v_getR X hd fl_X1_90 dX1_stride_17 (fun v4 hd => ?_)
    refine v_getI X hd fl_X1_418 dX1_stride_20 (fun v5 hd => ?_)
    refine v_iconst (v := (-1)) X dX1_stride_23 (by decide) ?_
    refine v_icmp_eq (tgt := 41) X dX1_stride_24 (by decide) (fun q => ?_) (fun q => ?_)
    · have hd := ite_t q hd
      refine v_bipush (v := (-2)) X dX1_stride_41 (by decide) ?_
      exact v_iret X hd ho dX1_stride_43
    · have hd := ite_f q hd
      refine v_aload_n X dX1_stride_27 1 0 rfl rfl ?_
      refine v_getR X hd fl_X1_90 dX1_stride_28 (fun v6 hd => ?_)
      refine v_getR X hd fl_X1_243 dX1_stride_31 (fun v7 hd => ?_)
      refine v_getI X hd fl_X1_247 dX1_stride_34 (fun v8 hd => ?_)
      refine v_iconst (v := 5) X dX1_stride_37 (by decide) ?_
      refine v_icmp_le (tgt := 44) X dX1_stride_38 (by decide) (fun q => ?_) (fun q => ?_)
      · have hd := ite_t q hd
        refine v_aload_n X dX1_stride_44 1 0 rfl rfl ?_
        refine v_iload_n X dX1_stride_45 0 1 rfl rfl ?_
        refine v_callV X hd hle (ct_X1_rings _ t v3) gCl_X1 (lw_V q1395 q1397 qs27 q109 q1398) ⟨rfl, dn_X1_rings⟩ rfl ⟨by decide, by decide⟩ rfl (Nat.le_of_ble_eq_true rfl) dX1_stride_46 (fun v9 h hd => ?_)
        show V K 5 h 49 [(1, .int v3), (0, .ref t)] [.int v9]
        refine v_istore_n (lv2 := [(2, .int v9), (1, .int v3), (0, .ref t)]) X dX1_stride_49 2 rfl (by decide) rfl ?_
        refine v_iload_n X dX1_stride_50 0 2 rfl rfl ?_
        refine v_iconst (v := (-1)) X dX1_stride_51 (by decide) ?_
        refine v_icmp_ne (tgt := 57) X dX1_stride_52 (by decide) (fun q => ?_) (fun q => ?_)
        · have hd := ite_f q hd
          refine v_iconst (v := 0) X dX1_stride_57 (by decide) ?_
          refine v_istore_n (lv2 := [(3, .int 0), (2, .int v9), (1, .int v3), (0, .ref t)]) X dX1_stride_58 3 rfl (by decide) rfl ?_
          refine v_iload_n X dX1_stride_59 1 2 rfl rfl ?_
          refine v_istore (lv2 := [(4, .int v9), (3, .int 0), (2, .int v9), (1, .int v3), (0, .ref t)]) X dX1_stride_60 (by decide) rfl ?_
          obtain ⟨e13, h1, hd, hd2⟩ := Mo.bind_some hd
          have KX : V K 5 h1 89 [(3, .int e13)] [] := by
            clear hd
            have hd := hd2
            refine v_iload_n X dX1_stride_89 0 3 rfl rfl ?_
            exact v_iret X hd ho dX1_stride_90
          have hle := (Mo.le hd2).tr hle
          clear hd2
          refine v_loc [4, 1, 0] rfl ?_
          refine loop_ind hd (fun (s10 : Int32 × Int32) h => V K 5 h 62 [(0, .ref t), (3, .int s10.1), (4, .int s10.2)] []) (fun s10 h x h2 hd hle0 ih11 ho12 => ?_)
          have hle := hle0.tr hle
          refine v_aload_n X dX1_stride_62 0 0 rfl rfl ?_
          refine v_getR X hd fl_X1_157 dX1_stride_63 (fun v14 hd => ?_)
          refine v_iload X dX1_stride_66 2 rfl ?_
          refine v_iald X hd dX1_stride_68 (fun v15 hd => ?_)
          refine v_iload X dX1_stride_69 2 rfl ?_
          refine v_icmp_eq (tgt := 89) X dX1_stride_71 (by decide) (fun q => ?_) (fun q => ?_)
          · have hd := ite_t q hd
            exact v_loc [1] rfl (v_at (P := fun (e13 : Int32) h => V K 5 h 89 [(3, .int e13)] []) (lp_out hd ho12) KX)
          · have hd := ite_f q hd
            refine v_iincL (lv2 := fun v16 => [(3, .int v16), (0, .ref t), (4, .int s10.2)]) X hd dX1_stride_74 1 rfl (by decide : Int32.ofInt 1 = 1) (by decide) (fun v16 => rfl) (fun v16 hd => ?_)
            refine v_aload_n X dX1_stride_77 1 0 rfl rfl ?_
            refine v_getR X hd fl_X1_157 dX1_stride_78 (fun v17 hd => ?_)
            refine v_iload X dX1_stride_81 2 rfl ?_
            refine v_iald X hd dX1_stride_83 (fun v18 hd => ?_)
            refine v_istore (lv2 := [(4, .int v18), (3, .int v16), (0, .ref t)]) X dX1_stride_84 (by decide) rfl ?_
            refine v_goto (tgt := 62) X dX1_stride_86 (by decide) ?_
            exact v_loc [2, 1, 0] rfl (lp_in (P := fun (s10 : Int32 × Int32) h => V K 5 h 62 [(0, .ref t), (3, .int s10.1), (4, .int s10.2)] []) hd ih11)
        · have hd := ite_t q hd
          refine v_iconst (v := (-1)) X dX1_stride_55 (by decide) ?_
          exact v_iret X hd ho dX1_stride_56
      · have hd := ite_f q hd
        refine v_bipush (v := (-2)) X dX1_stride_41 (by decide) ?_
        exact v_iret X hd ho dX1_stride_43
def dkwX1_stuck_2 : List UInt8 := [154, 0, 5, 28, 60, 132, 2, 1, 167, 255, 210, 27, 172]
abbrev dktX1_stuck_2 : List UInt8 := dkwX1_stuck_2 ++ []
def dkwX1_stuck_1 : List UInt8 := [162, 0, 35, 27, 153, 0, 14, 28, 184, 1, 130, 27, 184, 1, 130, 162, 0, 14, 42, 3, 28, 182, 1, 141]
abbrev dktX1_stuck_1 : List UInt8 := dkwX1_stuck_1 ++ dktX1_stuck_2
def dkwX1_stuck_0 : List UInt8 := [42, 182, 1, 102, 3, 60, 4, 61, 28, 42, 180, 0, 90, 180, 0, 243, 180, 0, 247, 184, 1, 138]
abbrev dktX1_stuck_0 : List UInt8 := dkwX1_stuck_0 ++ dktX1_stuck_1
theorem dksX1_stuck_0 : cX1_stuck.data.toList.drop 0 = dktX1_stuck_0 := by decide +kernel
theorem dksX1_stuck_1 : cX1_stuck.data.toList.drop 22 = dktX1_stuck_1 := dk_seg dksX1_stuck_0 22 rfl rfl
theorem dksX1_stuck_2 : cX1_stuck.data.toList.drop 46 = dktX1_stuck_2 := dk_seg dksX1_stuck_1 24 rfl rfl
theorem dX1_stuck_0 : decode cX1_stuck 0 = .ok (.aload_n 0, 1) := dk_42 (dk_at dksX1_stuck_0 0 rfl rfl)
theorem dX1_stuck_1 : decode cX1_stuck 1 = .ok (.invokevirtual 358, 3) := dk_182 1 102 (dk_at dksX1_stuck_0 1 rfl rfl)
theorem dX1_stuck_4 : decode cX1_stuck 4 = .ok (.iconst 0, 1) := dk_3 (dk_at dksX1_stuck_0 4 rfl rfl)
theorem dX1_stuck_5 : decode cX1_stuck 5 = .ok (.istore_n 1, 1) := dk_60 (dk_at dksX1_stuck_0 5 rfl rfl)
theorem dX1_stuck_6 : decode cX1_stuck 6 = .ok (.iconst 1, 1) := dk_4 (dk_at dksX1_stuck_0 6 rfl rfl)
theorem dX1_stuck_7 : decode cX1_stuck 7 = .ok (.istore_n 2, 1) := dk_61 (dk_at dksX1_stuck_0 7 rfl rfl)
theorem dX1_stuck_8 : decode cX1_stuck 8 = .ok (.iload_n 2, 1) := dk_28 (dk_at dksX1_stuck_0 8 rfl rfl)
theorem dX1_stuck_9 : decode cX1_stuck 9 = .ok (.aload_n 0, 1) := dk_42 (dk_at dksX1_stuck_0 9 rfl rfl)
theorem dX1_stuck_10 : decode cX1_stuck 10 = .ok (.getfield 90, 3) := dk_180 0 90 (dk_at dksX1_stuck_0 10 rfl rfl)
theorem dX1_stuck_13 : decode cX1_stuck 13 = .ok (.getfield 243, 3) := dk_180 0 243 (dk_at dksX1_stuck_0 13 rfl rfl)
theorem dX1_stuck_16 : decode cX1_stuck 16 = .ok (.getfield 247, 3) := dk_180 0 247 (dk_at dksX1_stuck_0 16 rfl rfl)
theorem dX1_stuck_19 : decode cX1_stuck 19 = .ok (.invokestatic 394, 3) := dk_184 1 138 (dk_at dksX1_stuck_0 19 rfl rfl)
theorem dX1_stuck_22 : decode cX1_stuck 22 = .ok (.if_icmp .ge 35, 3) := dk_162 0 35 (dk_at dksX1_stuck_1 0 rfl rfl)
theorem dX1_stuck_25 : decode cX1_stuck 25 = .ok (.iload_n 1, 1) := dk_27 (dk_at dksX1_stuck_1 3 rfl rfl)
theorem dX1_stuck_26 : decode cX1_stuck 26 = .ok (.ifCond .eq 14, 3) := dk_153 0 14 (dk_at dksX1_stuck_1 4 rfl rfl)
theorem dX1_stuck_29 : decode cX1_stuck 29 = .ok (.iload_n 2, 1) := dk_28 (dk_at dksX1_stuck_1 7 rfl rfl)
theorem dX1_stuck_30 : decode cX1_stuck 30 = .ok (.invokestatic 386, 3) := dk_184 1 130 (dk_at dksX1_stuck_1 8 rfl rfl)
theorem dX1_stuck_33 : decode cX1_stuck 33 = .ok (.iload_n 1, 1) := dk_27 (dk_at dksX1_stuck_1 11 rfl rfl)
theorem dX1_stuck_34 : decode cX1_stuck 34 = .ok (.invokestatic 386, 3) := dk_184 1 130 (dk_at dksX1_stuck_1 12 rfl rfl)
theorem dX1_stuck_37 : decode cX1_stuck 37 = .ok (.if_icmp .ge 14, 3) := dk_162 0 14 (dk_at dksX1_stuck_1 15 rfl rfl)
theorem dX1_stuck_40 : decode cX1_stuck 40 = .ok (.aload_n 0, 1) := dk_42 (dk_at dksX1_stuck_1 18 rfl rfl)
theorem dX1_stuck_41 : decode cX1_stuck 41 = .ok (.iconst 0, 1) := dk_3 (dk_at dksX1_stuck_1 19 rfl rfl)
theorem dX1_stuck_42 : decode cX1_stuck 42 = .ok (.iload_n 2, 1) := dk_28 (dk_at dksX1_stuck_1 20 rfl rfl)
theorem dX1_stuck_43 : decode cX1_stuck 43 = .ok (.invokevirtual 397, 3) := dk_182 1 141 (dk_at dksX1_stuck_1 21 rfl rfl)
theorem dX1_stuck_46 : decode cX1_stuck 46 = .ok (.ifCond .ne 5, 3) := dk_154 0 5 (dk_at dksX1_stuck_2 0 rfl rfl)
theorem dX1_stuck_49 : decode cX1_stuck 49 = .ok (.iload_n 2, 1) := dk_28 (dk_at dksX1_stuck_2 3 rfl rfl)
theorem dX1_stuck_50 : decode cX1_stuck 50 = .ok (.istore_n 1, 1) := dk_60 (dk_at dksX1_stuck_2 4 rfl rfl)
theorem dX1_stuck_51 : decode cX1_stuck 51 = .ok (.iinc 2 1, 3) := dk_132 2 1 (dk_at dksX1_stuck_2 5 rfl rfl)
theorem dX1_stuck_54 : decode cX1_stuck 54 = .ok (.goto (-46), 3) := dk_167 255 210 (dk_at dksX1_stuck_2 8 rfl rfl)
theorem dX1_stuck_57 : decode cX1_stuck 57 = .ok (.iload_n 1, 1) := dk_27 (dk_at dksX1_stuck_2 11 rfl rfl)
theorem dX1_stuck_58 : decode cX1_stuck 58 = .ok (.ireturn, 1) := dk_172 (dk_at dksX1_stuck_2 12 rfl rfl)
theorem dn_X1_stuck : yX1_stuck.cls ≠ "java/lang/invoke/MethodHandle" ∧ yX1_stuck.cls ≠ "java/lang/invoke/VarHandle" ∧ (parseMethodDescriptor yX1_stuck.desc).map (fun d => d.parameters.length) = some 0 := by decide +kernel
noncomputable def M_X1_stuck (t : Nat) : Mo Int32 := Mo.bind (chk [0] t) (fun _ => Mo.bind (M_X1_domains t) (fun v1 => Mo.bind (Mo.loop (S := Int32 × Int32) (E := Int32) (fun s2 => Mo.bind (gR [0] t 9) (fun v6 => Mo.bind (gR [2] v6 0) (fun v7 => Mo.bind (gI [3] v7 6) (fun v8 => Mo.bind (M_X1_one v8) (fun v9 => if v9 ≤ s2.2 then Mo.pure (Sum.inr s2.1) else Mo.bind ((if s2.1 = 0 then Mo.bind (M_X1_isHungWell 12 t 0 s2.2) (fun v12 => cond v12 (Mo.pure s2.1) (Mo.pure s2.2)) else Mo.bind (M_J10_bitCount s2.2) (fun v13 => Mo.bind (M_J10_bitCount s2.1) (fun v14 => if v14 ≤ v13 then Mo.pure s2.1 else Mo.bind (M_X1_isHungWell 12 t 0 s2.2) (fun v15 => cond v15 (Mo.pure s2.1) (Mo.pure s2.2)))) : Mo (Int32))) (fun u10 => Mo.lv (s2.2 + 1) (fun v11 => Mo.pure (Sum.inl (u10, v11))))))))) (0, 1)) (fun e5 => Mo.pure e5)))
set_option maxHeartbeats 4000000 in
theorem ct_X1_stuck (G : gG) (t : Nat) : gCt G yX1_stuck cX1_stuck 3 (some .int) 15 346 [.ref t] (M_X1_stuck t) (fun x : Int32 => some (.int x)) := by
  refine gCt.of (by decide) (Nat.le_of_ble_eq_true rfl) (fun K r hG X hd ho => ?_)
  subst hG
  have X : gX K cX1_stuck 3 "BitingDoors" "stuck" (some .int) 15 346 := X
  have hle : gLe (kh1 K) (kh1 K) := gLe.rf
  show V K 3 (kh0 K) 0 [(0, .ref t)] []
  generalize kh0 K = h at hd ⊢
  unfold M_X1_stuck at hd
  obtain ⟨-, hd⟩ := chk_some hd
  refine v_aload_n X dX1_stuck_0 0 0 rfl rfl ?_
  refine v_callV X hd hle (ct_X1_domains _ t) gCl_X1 (lw_V q1172 q1174 qs16 q109 q1175) ⟨rfl, dn_X1_domains⟩ rfl ⟨by decide, by decide⟩ rfl (Nat.le_of_ble_eq_true rfl) dX1_stuck_1 (fun v1 h hd => ?_)
  show V K 3 h 4 [(0, .ref t)] []
  refine v_iconst (v := 0) X dX1_stuck_4 (by decide) ?_
  refine v_istore_n (lv2 := [(1, .int 0), (0, .ref t)]) X dX1_stuck_5 1 rfl (by decide) rfl ?_
  refine v_iconst (v := 1) X dX1_stuck_6 (by decide) ?_
  refine v_istore_n (lv2 := [(2, .int 1), (1, .int 0), (0, .ref t)]) X dX1_stuck_7 2 rfl (by decide) rfl ?_
  obtain ⟨e5, h1, hd, hd2⟩ := Mo.bind_some hd
  have KX : V K 3 h1 57 [(1, .int e5)] [] := by
    clear hd
    have hd := hd2
    refine v_iload_n X dX1_stuck_57 0 1 rfl rfl ?_
    exact v_iret X hd ho dX1_stuck_58
  have hle := (Mo.le hd2).tr hle
  clear hd2
  refine v_loc [2, 1, 0] rfl ?_
  refine loop_ind hd (fun (s2 : Int32 × Int32) h => V K 3 h 8 [(0, .ref t), (1, .int s2.1), (2, .int s2.2)] []) (fun s2 h x h2 hd hle0 ih3 ho4 => ?_)
  have hle := hle0.tr hle
  refine v_iload_n X dX1_stuck_8 2 2 rfl rfl ?_
  refine v_aload_n X dX1_stuck_9 0 0 rfl rfl ?_
  refine v_getR X hd fl_X1_90 dX1_stuck_10 (fun v6 hd => ?_)
  refine v_getR X hd fl_X1_243 dX1_stuck_13 (fun v7 hd => ?_)
  refine v_getI X hd fl_X1_247 dX1_stuck_16 (fun v8 hd => ?_)
  refine v_callS X hd hle (ct_X1_one _ v8) (lw_S q1240 q895 q109 q896) dn_X1_one rfl ⟨by decide, by decide⟩ rfl (Nat.le_of_ble_eq_true rfl) dX1_stuck_19 (fun v9 h hd => ?_)
  show V K 3 h 22 [(0, .ref t), (1, .int s2.1), (2, .int s2.2)] [.int v9, .int s2.2]
  refine v_icmp_ge (tgt := 57) X dX1_stuck_22 (by decide) (fun q => ?_) (fun q => ?_)
  · have hd := ite_t q hd
    exact v_loc [1] rfl (v_at (P := fun (e5 : Int32) h => V K 3 h 57 [(1, .int e5)] []) (lp_out hd ho4) KX)
  · have hd := ite_f q hd
    refine v_iload_n X dX1_stuck_25 1 1 rfl rfl ?_
    obtain ⟨u10, h1, hd, hd2⟩ := Mo.bind_some hd
    have KJ : V K 3 h1 51 [(0, .ref t), (1, .int u10), (2, .int s2.2)] [] := by
      clear hd
      have hd := hd2
      refine v_iincL (lv2 := fun v11 => [(2, .int v11), (0, .ref t), (1, .int u10)]) X hd dX1_stuck_51 2 rfl (by decide : Int32.ofInt 1 = 1) (by decide) (fun v11 => rfl) (fun v11 hd => ?_)
      refine v_goto (tgt := 8) X dX1_stuck_54 (by decide) ?_
      exact v_loc [1, 2, 0] rfl (lp_in (P := fun (s2 : Int32 × Int32) h => V K 3 h 8 [(0, .ref t), (1, .int s2.1), (2, .int s2.2)] []) hd ih3)
    have hle := (Mo.le hd2).tr hle
    clear hd2
    refine v_if_eq (tgt := 40) X dX1_stuck_26 (by decide) (fun q => ?_) (fun q => ?_)
    · have hd := ite_t q hd
      refine v_aload_n X dX1_stuck_40 0 0 rfl rfl ?_
      refine v_iconst (v := 0) X dX1_stuck_41 (by decide) ?_
      refine v_iload_n X dX1_stuck_42 2 2 rfl rfl ?_
      refine v_callV X hd hle (ct_X1_isHungWell _ 12 t 0 s2.2) gCl_X1 (lw_V q1253 q1255 qs23 q109 q1256) ⟨rfl, dn_X1_isHungWell⟩ rfl ⟨by decide, by decide⟩ rfl (Nat.le_of_ble_eq_true rfl) dX1_stuck_43 (fun v12 h hd => ?_)
      show V K 3 h 46 [(0, .ref t), (1, .int s2.1), (2, .int s2.2)] [.int (b2i v12)]
      refine v_ifZ_ne (tgt := 51) X dX1_stuck_46 (by decide) (fun q => ?_) (fun q => ?_)
      · have hd := cnd_t q hd
        exact v_loc [0, 1, 2] rfl (v_at (P := fun (u10 : Int32) h => V K 3 h 51 [(0, .ref t), (1, .int u10), (2, .int s2.2)] []) hd KJ)
      · have hd := cnd_f q hd
        refine v_iload_n X dX1_stuck_49 2 2 rfl rfl ?_
        refine v_istore_n (lv2 := [(1, .int s2.2), (0, .ref t), (2, .int s2.2)]) X dX1_stuck_50 1 rfl (by decide) rfl ?_
        exact v_loc [1, 0, 2] rfl (v_at (P := fun (u10 : Int32) h => V K 3 h 51 [(0, .ref t), (1, .int u10), (2, .int s2.2)] []) hd KJ)
    · have hd := ite_f q hd
      refine v_iload_n X dX1_stuck_29 2 2 rfl rfl ?_
      refine v_callS X hd hle (ct_J10_bitCount _ s2.2) (lw_S q1230 q1231 q132 q1232) dn_J10_bitCount rfl ⟨by decide, by decide⟩ rfl (Nat.le_of_ble_eq_true rfl) dX1_stuck_30 (fun v13 h hd => ?_)
      show V K 3 h 33 [(0, .ref t), (1, .int s2.1), (2, .int s2.2)] [.int v13]
      refine v_iload_n X dX1_stuck_33 1 1 rfl rfl ?_
      refine v_callS X hd hle (ct_J10_bitCount _ s2.1) (lw_S q1230 q1231 q132 q1232) dn_J10_bitCount rfl ⟨by decide, by decide⟩ rfl (Nat.le_of_ble_eq_true rfl) dX1_stuck_34 (fun v14 h hd => ?_)
      show V K 3 h 37 [(0, .ref t), (1, .int s2.1), (2, .int s2.2)] [.int v14, .int v13]
      refine v_icmp_ge (tgt := 51) X dX1_stuck_37 (by decide) (fun q => ?_) (fun q => ?_)
      · have hd := ite_t q hd
        exact v_loc [0, 1, 2] rfl (v_at (P := fun (u10 : Int32) h => V K 3 h 51 [(0, .ref t), (1, .int u10), (2, .int s2.2)] []) hd KJ)
      · have hd := ite_f q hd
        refine v_aload_n X dX1_stuck_40 0 0 rfl rfl ?_
        refine v_iconst (v := 0) X dX1_stuck_41 (by decide) ?_
        refine v_iload_n X dX1_stuck_42 2 2 rfl rfl ?_
        refine v_callV X hd hle (ct_X1_isHungWell _ 12 t 0 s2.2) gCl_X1 (lw_V q1253 q1255 qs23 q109 q1256) ⟨rfl, dn_X1_isHungWell⟩ rfl ⟨by decide, by decide⟩ rfl (Nat.le_of_ble_eq_true rfl) dX1_stuck_43 (fun v15 h hd => ?_)
        show V K 3 h 46 [(0, .ref t), (1, .int s2.1), (2, .int s2.2)] [.int (b2i v15)]
        refine v_ifZ_ne (tgt := 51) X dX1_stuck_46 (by decide) (fun q => ?_) (fun q => ?_)
        · have hd := cnd_t q hd
          exact v_loc [0, 1, 2] rfl (v_at (P := fun (u10 : Int32) h => V K 3 h 51 [(0, .ref t), (1, .int u10), (2, .int s2.2)] []) hd KJ)
        · have hd := cnd_f q hd
          refine v_iload_n X dX1_stuck_49 2 2 rfl rfl ?_
          refine v_istore_n (lv2 := [(1, .int s2.2), (0, .ref t), (2, .int s2.2)]) X dX1_stuck_50 1 rfl (by decide) rfl ?_
          exact v_loc [1, 0, 2] rfl (v_at (P := fun (u10 : Int32) h => V K 3 h 51 [(0, .ref t), (1, .int u10), (2, .int s2.2)] []) hd KJ)
def dkwX1_rehang_2 : List UInt8 := [42, 180, 0, 90, 180, 1, 30, 27, 28, 79, 4, 172]
abbrev dktX1_rehang_2 : List UInt8 := dkwX1_rehang_2 ++ []
def dkwX1_rehang_1 : List UInt8 := [182, 1, 80, 28, 184, 1, 73, 153, 0, 15, 42, 180, 0, 90, 180, 1, 33, 27, 46, 153, 0, 5, 3, 172]
abbrev dktX1_rehang_1 : List UInt8 := dkwX1_rehang_1 ++ dktX1_rehang_2
def dkwX1_rehang_0 : List UInt8 := [42, 27, 182, 1, 7, 153, 0, 40, 28, 184, 1, 42, 153, 0, 33, 42, 180, 0, 90, 180, 0, 243, 27]
abbrev dktX1_rehang_0 : List UInt8 := dkwX1_rehang_0 ++ dktX1_rehang_1
theorem dksX1_rehang_0 : cX1_rehang.data.toList.drop 0 = dktX1_rehang_0 := by decide +kernel
theorem dksX1_rehang_1 : cX1_rehang.data.toList.drop 23 = dktX1_rehang_1 := dk_seg dksX1_rehang_0 23 rfl rfl
theorem dksX1_rehang_2 : cX1_rehang.data.toList.drop 47 = dktX1_rehang_2 := dk_seg dksX1_rehang_1 24 rfl rfl
theorem dX1_rehang_0 : decode cX1_rehang 0 = .ok (.aload_n 0, 1) := dk_42 (dk_at dksX1_rehang_0 0 rfl rfl)
theorem dX1_rehang_1 : decode cX1_rehang 1 = .ok (.iload_n 1, 1) := dk_27 (dk_at dksX1_rehang_0 1 rfl rfl)
theorem dX1_rehang_2 : decode cX1_rehang 2 = .ok (.invokevirtual 263, 3) := dk_182 1 7 (dk_at dksX1_rehang_0 2 rfl rfl)
theorem dX1_rehang_5 : decode cX1_rehang 5 = .ok (.ifCond .eq 40, 3) := dk_153 0 40 (dk_at dksX1_rehang_0 5 rfl rfl)
theorem dX1_rehang_8 : decode cX1_rehang 8 = .ok (.iload_n 2, 1) := dk_28 (dk_at dksX1_rehang_0 8 rfl rfl)
theorem dX1_rehang_9 : decode cX1_rehang 9 = .ok (.invokestatic 298, 3) := dk_184 1 42 (dk_at dksX1_rehang_0 9 rfl rfl)
theorem dX1_rehang_12 : decode cX1_rehang 12 = .ok (.ifCond .eq 33, 3) := dk_153 0 33 (dk_at dksX1_rehang_0 12 rfl rfl)
theorem dX1_rehang_15 : decode cX1_rehang 15 = .ok (.aload_n 0, 1) := dk_42 (dk_at dksX1_rehang_0 15 rfl rfl)
theorem dX1_rehang_16 : decode cX1_rehang 16 = .ok (.getfield 90, 3) := dk_180 0 90 (dk_at dksX1_rehang_0 16 rfl rfl)
theorem dX1_rehang_19 : decode cX1_rehang 19 = .ok (.getfield 243, 3) := dk_180 0 243 (dk_at dksX1_rehang_0 19 rfl rfl)
theorem dX1_rehang_22 : decode cX1_rehang 22 = .ok (.iload_n 1, 1) := dk_27 (dk_at dksX1_rehang_0 22 rfl rfl)
theorem dX1_rehang_23 : decode cX1_rehang 23 = .ok (.invokevirtual 336, 3) := dk_182 1 80 (dk_at dksX1_rehang_1 0 rfl rfl)
theorem dX1_rehang_26 : decode cX1_rehang 26 = .ok (.iload_n 2, 1) := dk_28 (dk_at dksX1_rehang_1 3 rfl rfl)
theorem dX1_rehang_27 : decode cX1_rehang 27 = .ok (.invokestatic 329, 3) := dk_184 1 73 (dk_at dksX1_rehang_1 4 rfl rfl)
theorem dX1_rehang_30 : decode cX1_rehang 30 = .ok (.ifCond .eq 15, 3) := dk_153 0 15 (dk_at dksX1_rehang_1 7 rfl rfl)
theorem dX1_rehang_33 : decode cX1_rehang 33 = .ok (.aload_n 0, 1) := dk_42 (dk_at dksX1_rehang_1 10 rfl rfl)
theorem dX1_rehang_34 : decode cX1_rehang 34 = .ok (.getfield 90, 3) := dk_180 0 90 (dk_at dksX1_rehang_1 11 rfl rfl)
theorem dX1_rehang_37 : decode cX1_rehang 37 = .ok (.getfield 289, 3) := dk_180 1 33 (dk_at dksX1_rehang_1 14 rfl rfl)
theorem dX1_rehang_40 : decode cX1_rehang 40 = .ok (.iload_n 1, 1) := dk_27 (dk_at dksX1_rehang_1 17 rfl rfl)
theorem dX1_rehang_41 : decode cX1_rehang 41 = .ok (.iaload, 1) := dk_46 (dk_at dksX1_rehang_1 18 rfl rfl)
theorem dX1_rehang_42 : decode cX1_rehang 42 = .ok (.ifCond .eq 5, 3) := dk_153 0 5 (dk_at dksX1_rehang_1 19 rfl rfl)
theorem dX1_rehang_45 : decode cX1_rehang 45 = .ok (.iconst 0, 1) := dk_3 (dk_at dksX1_rehang_1 22 rfl rfl)
theorem dX1_rehang_46 : decode cX1_rehang 46 = .ok (.ireturn, 1) := dk_172 (dk_at dksX1_rehang_1 23 rfl rfl)
theorem dX1_rehang_47 : decode cX1_rehang 47 = .ok (.aload_n 0, 1) := dk_42 (dk_at dksX1_rehang_2 0 rfl rfl)
theorem dX1_rehang_48 : decode cX1_rehang 48 = .ok (.getfield 90, 3) := dk_180 0 90 (dk_at dksX1_rehang_2 1 rfl rfl)
theorem dX1_rehang_51 : decode cX1_rehang 51 = .ok (.getfield 286, 3) := dk_180 1 30 (dk_at dksX1_rehang_2 4 rfl rfl)
theorem dX1_rehang_54 : decode cX1_rehang 54 = .ok (.iload_n 1, 1) := dk_27 (dk_at dksX1_rehang_2 7 rfl rfl)
theorem dX1_rehang_55 : decode cX1_rehang 55 = .ok (.iload_n 2, 1) := dk_28 (dk_at dksX1_rehang_2 8 rfl rfl)
theorem dX1_rehang_56 : decode cX1_rehang 56 = .ok (.iastore, 1) := dk_79 (dk_at dksX1_rehang_2 9 rfl rfl)
theorem dX1_rehang_57 : decode cX1_rehang 57 = .ok (.iconst 1, 1) := dk_4 (dk_at dksX1_rehang_2 10 rfl rfl)
theorem dX1_rehang_58 : decode cX1_rehang 58 = .ok (.ireturn, 1) := dk_172 (dk_at dksX1_rehang_2 11 rfl rfl)
theorem dn_X1_rehang : yX1_rehang.cls ≠ "java/lang/invoke/MethodHandle" ∧ yX1_rehang.cls ≠ "java/lang/invoke/VarHandle" ∧ (parseMethodDescriptor yX1_rehang.desc).map (fun d => d.parameters.length) = some 2 := by decide +kernel
noncomputable def M_X1_rehang (t : Nat) (p1 : Int32) (p2 : Int32) : Mo Bool := Mo.bind (chk [0] t) (fun _ => Mo.bind (M_X1_isDoor t p1) (fun v1 => cond v1 (Mo.bind (M_X1_isHanging p2) (fun v2 => cond v2 (Mo.bind (gR [0] t 9) (fun v3 => Mo.bind (gR [2] v3 0) (fun v4 => Mo.bind (M_X4_domain v4 p1) (fun v5 => Mo.bind (M_X1_has v5 p2) (fun v6 => cond v6 (Mo.bind (gR [0] t 9) (fun v7 => Mo.bind (gR [2] v7 2) (fun v8 => Mo.bind (aldI 0 v8 p1) (fun v9 => if v9 = 0 then Mo.bind (gR [0] t 9) (fun v10 => Mo.bind (gR [2] v10 1) (fun v11 => Mo.bind (astI 0 v11 p1 p2) (fun _ => Mo.pure true))) else Mo.pure false)))) (Mo.pure false)))))) (Mo.pure false))) (Mo.pure false)))
set_option maxHeartbeats 4000000 in
theorem ct_X1_rehang (G : gG) (t : Nat) (p1 : Int32) (p2 : Int32) : gCt G yX1_rehang cX1_rehang 3 (some .boolean) 4 87 [.ref t, .int p1, .int p2] (M_X1_rehang t p1 p2) (fun x : Bool => some (.int (b2i x))) := by
  refine gCt.of (by decide) (Nat.le_of_ble_eq_true rfl) (fun K r hG X hd ho => ?_)
  subst hG
  have X : gX K cX1_rehang 3 "BitingDoors" "rehang" (some .boolean) 4 87 := X
  have hle : gLe (kh1 K) (kh1 K) := gLe.rf
  show V K 3 (kh0 K) 0 [(0, .ref t), (1, .int p1), (2, .int p2)] []
  generalize kh0 K = h at hd ⊢
  unfold M_X1_rehang at hd
  obtain ⟨-, hd⟩ := chk_some hd
  refine v_aload_n X dX1_rehang_0 0 0 rfl rfl ?_
  refine v_iload_n X dX1_rehang_1 1 1 rfl rfl ?_
  refine v_callV X hd hle (ct_X1_isDoor _ t p1) gCl_X1 (lw_V q1115 q1117 qs12 q109 q1118) ⟨rfl, dn_X1_isDoor⟩ rfl ⟨by decide, by decide⟩ rfl (Nat.le_of_ble_eq_true rfl) dX1_rehang_2 (fun v1 h hd => ?_)
  show V K 3 h 5 [(0, .ref t), (1, .int p1), (2, .int p2)] [.int (b2i v1)]
  refine v_ifZ_eq (tgt := 45) X dX1_rehang_5 (by decide) (fun q => ?_) (fun q => ?_)
  · have hd := cnd_f q hd
    refine v_iconst (v := 0) X dX1_rehang_45 (by decide) ?_
    exact v_zret X hd rfl ho dX1_rehang_46
  · have hd := cnd_t q hd
    refine v_iload_n X dX1_rehang_8 2 2 rfl rfl ?_
    refine v_callS X hd hle (ct_X1_isHanging _ p2) (lw_S q1120 q1121 q109 q1122) dn_X1_isHanging rfl ⟨by decide, by decide⟩ rfl (Nat.le_of_ble_eq_true rfl) dX1_rehang_9 (fun v2 h hd => ?_)
    show V K 3 h 12 [(0, .ref t), (1, .int p1), (2, .int p2)] [.int (b2i v2)]
    refine v_ifZ_eq (tgt := 45) X dX1_rehang_12 (by decide) (fun q => ?_) (fun q => ?_)
    · have hd := cnd_f q hd
      refine v_iconst (v := 0) X dX1_rehang_45 (by decide) ?_
      exact v_zret X hd rfl ho dX1_rehang_46
    · have hd := cnd_t q hd
      refine v_aload_n X dX1_rehang_15 0 0 rfl rfl ?_
      refine v_getR X hd fl_X1_90 dX1_rehang_16 (fun v3 hd => ?_)
      refine v_getR X hd fl_X1_243 dX1_rehang_19 (fun v4 hd => ?_)
      refine v_iload_n X dX1_rehang_22 1 1 rfl rfl ?_
      refine v_callV X hd hle (ct_X4_domain _ v4 p1) gCl_X4 (lw_V q1176 q1177 q1178 q114 q1179) ⟨rfl, dn_X4_domain⟩ rfl ⟨by decide, by decide⟩ rfl (Nat.le_of_ble_eq_true rfl) dX1_rehang_23 (fun v5 h hd => ?_)
      show V K 3 h 26 [(0, .ref t), (1, .int p1), (2, .int p2)] [.int v5]
      refine v_iload_n X dX1_rehang_26 2 2 rfl rfl ?_
      refine v_callS X hd hle (ct_X1_has _ v5 p2) (lw_S q1163 q899 q109 q900) dn_X1_has rfl ⟨by decide, by decide⟩ rfl (Nat.le_of_ble_eq_true rfl) dX1_rehang_27 (fun v6 h hd => ?_)
      show V K 3 h 30 [(0, .ref t), (1, .int p1), (2, .int p2)] [.int (b2i v6)]
      refine v_ifZ_eq (tgt := 45) X dX1_rehang_30 (by decide) (fun q => ?_) (fun q => ?_)
      · have hd := cnd_f q hd
        refine v_iconst (v := 0) X dX1_rehang_45 (by decide) ?_
        exact v_zret X hd rfl ho dX1_rehang_46
      · have hd := cnd_t q hd
        refine v_aload_n X dX1_rehang_33 0 0 rfl rfl ?_
        refine v_getR X hd fl_X1_90 dX1_rehang_34 (fun v7 hd => ?_)
        refine v_getR X hd fl_X1_289 dX1_rehang_37 (fun v8 hd => ?_)
        refine v_iload_n X dX1_rehang_40 1 1 rfl rfl ?_
        refine v_iald X hd dX1_rehang_41 (fun v9 hd => ?_)
        refine v_if_eq (tgt := 47) X dX1_rehang_42 (by decide) (fun q => ?_) (fun q => ?_)
        · have hd := ite_t q hd
          refine v_aload_n X dX1_rehang_47 0 0 rfl rfl ?_
          refine v_getR X hd fl_X1_90 dX1_rehang_48 (fun v10 hd => ?_)
          refine v_getR X hd fl_X1_286 dX1_rehang_51 (fun v11 hd => ?_)
          refine v_iload_n X dX1_rehang_54 1 1 rfl rfl ?_
          refine v_iload_n X dX1_rehang_55 2 2 rfl rfl ?_
          refine v_iast X hd dX1_rehang_56 (fun h hd => ?_)
          refine v_iconst (v := 1) X dX1_rehang_57 (by decide) ?_
          exact v_zret X hd rfl ho dX1_rehang_58
        · have hd := ite_f q hd
          refine v_iconst (v := 0) X dX1_rehang_45 (by decide) ?_
          exact v_zret X hd rfl ho dX1_rehang_46
theorem dX1_fault_0 : decode cX1_fault 0 = .ok (.aload_n 0, 1) := by decide +kernel
theorem dX1_fault_1 : decode cX1_fault 1 = .ok (.getfield 210, 3) := by decide +kernel
theorem dX1_fault_4 : decode cX1_fault 4 = .ok (.ireturn, 1) := by decide +kernel
theorem fl_X1_210 : gFl "BitingDoors" 210 [0] 14 := by
  intro args s hts hN ci hc
  simp only [List.mem_cons, List.not_mem_nil, or_false] at hc
  subst hc
  exact ⟨RX1, TX1, 46, "BitingDoors", gCl_X1, in_X1, by decide, Or.inl (hts _ q515), fun _ h => h⟩
theorem dn_X1_fault : yX1_fault.cls ≠ "java/lang/invoke/MethodHandle" ∧ yX1_fault.cls ≠ "java/lang/invoke/VarHandle" ∧ (parseMethodDescriptor yX1_fault.desc).map (fun d => d.parameters.length) = some 0 := by decide +kernel
noncomputable def M_X1_fault (t : Nat) : Mo Int32 := Mo.bind (chk [0] t) (fun _ => Mo.bind (gI [0] t 14) (fun v1 => Mo.pure v1))
set_option maxHeartbeats 4000000 in
theorem ct_X1_fault (G : gG) (t : Nat) : gCt G yX1_fault cX1_fault 1 (some .int) 0 0 [.ref t] (M_X1_fault t) (fun x : Int32 => some (.int x)) := by
  refine gCt.of (by decide) (Nat.le_of_ble_eq_true rfl) (fun K r hG X hd ho => ?_)
  subst hG
  have X : gX K cX1_fault 1 "BitingDoors" "fault" (some .int) 0 0 := X
  have hle : gLe (kh1 K) (kh1 K) := gLe.rf
  show V K 1 (kh0 K) 0 [(0, .ref t)] []
  generalize kh0 K = h at hd ⊢
  unfold M_X1_fault at hd
  obtain ⟨-, hd⟩ := chk_some hd
  refine v_aload_n X dX1_fault_0 0 0 rfl rfl ?_
  refine v_getI X hd fl_X1_210 dX1_fault_1 (fun v1 hd => ?_)
  exact v_iret X hd ho dX1_fault_4
def dkwX1_joinerAt_1 : List UInt8 := [172]
abbrev dktX1_joinerAt_1 : List UInt8 := dkwX1_joinerAt_1 ++ []
def dkwX1_joinerAt_0 : List UInt8 := [27, 3, 42, 180, 1, 153, 4, 100, 184, 0, 248, 153, 0, 12, 42, 180, 0, 142, 27, 46, 167, 0, 4, 2]
abbrev dktX1_joinerAt_0 : List UInt8 := dkwX1_joinerAt_0 ++ dktX1_joinerAt_1
theorem dksX1_joinerAt_0 : cX1_joinerAt.data.toList.drop 0 = dktX1_joinerAt_0 := by decide +kernel
theorem dksX1_joinerAt_1 : cX1_joinerAt.data.toList.drop 24 = dktX1_joinerAt_1 := dk_seg dksX1_joinerAt_0 24 rfl rfl
theorem dX1_joinerAt_0 : decode cX1_joinerAt 0 = .ok (.iload_n 1, 1) := dk_27 (dk_at dksX1_joinerAt_0 0 rfl rfl)
theorem dX1_joinerAt_1 : decode cX1_joinerAt 1 = .ok (.iconst 0, 1) := dk_3 (dk_at dksX1_joinerAt_0 1 rfl rfl)
theorem dX1_joinerAt_2 : decode cX1_joinerAt 2 = .ok (.aload_n 0, 1) := dk_42 (dk_at dksX1_joinerAt_0 2 rfl rfl)
theorem dX1_joinerAt_3 : decode cX1_joinerAt 3 = .ok (.getfield 409, 3) := dk_180 1 153 (dk_at dksX1_joinerAt_0 3 rfl rfl)
theorem dX1_joinerAt_6 : decode cX1_joinerAt 6 = .ok (.iconst 1, 1) := dk_4 (dk_at dksX1_joinerAt_0 6 rfl rfl)
theorem dX1_joinerAt_7 : decode cX1_joinerAt 7 = .ok (.isub, 1) := dk_100 (dk_at dksX1_joinerAt_0 7 rfl rfl)
theorem dX1_joinerAt_8 : decode cX1_joinerAt 8 = .ok (.invokestatic 248, 3) := dk_184 0 248 (dk_at dksX1_joinerAt_0 8 rfl rfl)
theorem dX1_joinerAt_11 : decode cX1_joinerAt 11 = .ok (.ifCond .eq 12, 3) := dk_153 0 12 (dk_at dksX1_joinerAt_0 11 rfl rfl)
theorem dX1_joinerAt_14 : decode cX1_joinerAt 14 = .ok (.aload_n 0, 1) := dk_42 (dk_at dksX1_joinerAt_0 14 rfl rfl)
theorem dX1_joinerAt_15 : decode cX1_joinerAt 15 = .ok (.getfield 142, 3) := dk_180 0 142 (dk_at dksX1_joinerAt_0 15 rfl rfl)
theorem dX1_joinerAt_18 : decode cX1_joinerAt 18 = .ok (.iload_n 1, 1) := dk_27 (dk_at dksX1_joinerAt_0 18 rfl rfl)
theorem dX1_joinerAt_19 : decode cX1_joinerAt 19 = .ok (.iaload, 1) := dk_46 (dk_at dksX1_joinerAt_0 19 rfl rfl)
theorem dX1_joinerAt_20 : decode cX1_joinerAt 20 = .ok (.goto 4, 3) := dk_167 0 4 (dk_at dksX1_joinerAt_0 20 rfl rfl)
theorem dX1_joinerAt_23 : decode cX1_joinerAt 23 = .ok (.iconst (-1), 1) := dk_2 (dk_at dksX1_joinerAt_0 23 rfl rfl)
theorem dX1_joinerAt_24 : decode cX1_joinerAt 24 = .ok (.ireturn, 1) := dk_172 (dk_at dksX1_joinerAt_1 0 rfl rfl)
theorem fl_X1_409 : gFl "BitingDoors" 409 [0] 31 := by
  intro args s hts hN ci hc
  simp only [List.mem_cons, List.not_mem_nil, or_false] at hc
  subst hc
  exact ⟨RX1, TX1, 46, "BitingDoors", gCl_X1, in_X1, by decide, Or.inl (hts _ q532), fun _ h => h⟩
theorem dn_X1_joinerAt : yX1_joinerAt.cls ≠ "java/lang/invoke/MethodHandle" ∧ yX1_joinerAt.cls ≠ "java/lang/invoke/VarHandle" ∧ (parseMethodDescriptor yX1_joinerAt.desc).map (fun d => d.parameters.length) = some 1 := by decide +kernel
noncomputable def M_X1_joinerAt (t : Nat) (p1 : Int32) : Mo Int32 := Mo.bind (chk [0] t) (fun _ => Mo.bind (gI [0] t 31) (fun v1 => Mo.bind (M_X1_isIn p1 0 (v1 - 1)) (fun v2 => Mo.bind ((cond v2 (Mo.bind (gR [0] t 27) (fun v4 => Mo.bind (aldI 0 v4 p1) (fun v5 => Mo.pure v5))) (Mo.pure (-1)) : Mo (Int32))) (fun u3 => Mo.pure u3))))
set_option maxHeartbeats 4000000 in
theorem ct_X1_joinerAt (G : gG) (t : Nat) (p1 : Int32) : gCt G yX1_joinerAt cX1_joinerAt 2 (some .int) 1 22 [.ref t, .int p1] (M_X1_joinerAt t p1) (fun x : Int32 => some (.int x)) := by
  refine gCt.of (by decide) (Nat.le_of_ble_eq_true rfl) (fun K r hG X hd ho => ?_)
  subst hG
  have X : gX K cX1_joinerAt 2 "BitingDoors" "joinerAt" (some .int) 1 22 := X
  have hle : gLe (kh1 K) (kh1 K) := gLe.rf
  show V K 2 (kh0 K) 0 [(0, .ref t), (1, .int p1)] []
  generalize kh0 K = h at hd ⊢
  unfold M_X1_joinerAt at hd
  obtain ⟨-, hd⟩ := chk_some hd
  refine v_iload_n X dX1_joinerAt_0 1 1 rfl rfl ?_
  refine v_iconst (v := 0) X dX1_joinerAt_1 (by decide) ?_
  refine v_aload_n X dX1_joinerAt_2 0 0 rfl rfl ?_
  refine v_getI X hd fl_X1_409 dX1_joinerAt_3 (fun v1 hd => ?_)
  refine v_iconst (v := 1) X dX1_joinerAt_6 (by decide) ?_
  refine v_isub X dX1_joinerAt_7 ?_
  refine v_callS X hd hle (ct_X1_isIn _ p1 0 (v1 - 1)) (lw_S q1119 q688 q109 q689) dn_X1_isIn rfl ⟨by decide, by decide⟩ rfl (Nat.le_of_ble_eq_true rfl) dX1_joinerAt_8 (fun v2 h hd => ?_)
  show V K 2 h 11 [(0, .ref t), (1, .int p1)] [.int (b2i v2)]
  obtain ⟨u3, h1, hd, hd2⟩ := Mo.bind_some hd
  have KJ : V K 2 h1 24 [] [.int u3] := by
    clear hd
    have hd := hd2
    exact v_iret X hd ho dX1_joinerAt_24
  have hle := (Mo.le hd2).tr hle
  clear hd2
  refine v_ifZ_eq (tgt := 23) X dX1_joinerAt_11 (by decide) (fun q => ?_) (fun q => ?_)
  · have hd := cnd_f q hd
    refine v_iconst (v := (-1)) X dX1_joinerAt_23 (by decide) ?_
    exact v_loc [] rfl (v_at (P := fun (u3 : Int32) h => V K 2 h 24 [] [.int u3]) hd KJ)
  · have hd := cnd_t q hd
    refine v_aload_n X dX1_joinerAt_14 0 0 rfl rfl ?_
    refine v_getR X hd fl_X1_142 dX1_joinerAt_15 (fun v4 hd => ?_)
    refine v_iload_n X dX1_joinerAt_18 1 1 rfl rfl ?_
    refine v_iald X hd dX1_joinerAt_19 (fun v5 hd => ?_)
    refine v_goto (tgt := 24) X dX1_joinerAt_20 (by decide) ?_
    exact v_loc [] rfl (v_at (P := fun (u3 : Int32) h => V K 2 h 24 [] [.int u3]) hd KJ)
def dkwX14_run_1 : List UInt8 := [172, 132, 2, 1, 167, 255, 230, 3, 172]
abbrev dktX14_run_1 : List UInt8 := dkwX14_run_1 ++ []
def dkwX14_run_0 : List UInt8 := [3, 61, 28, 42, 180, 0, 13, 162, 0, 24, 43, 42, 180, 0, 7, 182, 0, 16, 62, 29, 158, 0, 5, 29]
abbrev dktX14_run_0 : List UInt8 := dkwX14_run_0 ++ dktX14_run_1
theorem dksX14_run_0 : cX14_run.data.toList.drop 0 = dktX14_run_0 := by decide +kernel
theorem dksX14_run_1 : cX14_run.data.toList.drop 24 = dktX14_run_1 := dk_seg dksX14_run_0 24 rfl rfl
theorem dX14_run_0 : decode cX14_run 0 = .ok (.iconst 0, 1) := dk_3 (dk_at dksX14_run_0 0 rfl rfl)
theorem dX14_run_1 : decode cX14_run 1 = .ok (.istore_n 2, 1) := dk_61 (dk_at dksX14_run_0 1 rfl rfl)
theorem dX14_run_2 : decode cX14_run 2 = .ok (.iload_n 2, 1) := dk_28 (dk_at dksX14_run_0 2 rfl rfl)
theorem dX14_run_3 : decode cX14_run 3 = .ok (.aload_n 0, 1) := dk_42 (dk_at dksX14_run_0 3 rfl rfl)
theorem dX14_run_4 : decode cX14_run 4 = .ok (.getfield 13, 3) := dk_180 0 13 (dk_at dksX14_run_0 4 rfl rfl)
theorem dX14_run_7 : decode cX14_run 7 = .ok (.if_icmp .ge 24, 3) := dk_162 0 24 (dk_at dksX14_run_0 7 rfl rfl)
theorem dX14_run_10 : decode cX14_run 10 = .ok (.aload_n 1, 1) := dk_43 (dk_at dksX14_run_0 10 rfl rfl)
theorem dX14_run_11 : decode cX14_run 11 = .ok (.aload_n 0, 1) := dk_42 (dk_at dksX14_run_0 11 rfl rfl)
theorem dX14_run_12 : decode cX14_run 12 = .ok (.getfield 7, 3) := dk_180 0 7 (dk_at dksX14_run_0 12 rfl rfl)
theorem dX14_run_15 : decode cX14_run 15 = .ok (.invokevirtual 16, 3) := dk_182 0 16 (dk_at dksX14_run_0 15 rfl rfl)
theorem dX14_run_18 : decode cX14_run 18 = .ok (.istore_n 3, 1) := dk_62 (dk_at dksX14_run_0 18 rfl rfl)
theorem dX14_run_19 : decode cX14_run 19 = .ok (.iload_n 3, 1) := dk_29 (dk_at dksX14_run_0 19 rfl rfl)
theorem dX14_run_20 : decode cX14_run 20 = .ok (.ifCond .le 5, 3) := dk_158 0 5 (dk_at dksX14_run_0 20 rfl rfl)
theorem dX14_run_23 : decode cX14_run 23 = .ok (.iload_n 3, 1) := dk_29 (dk_at dksX14_run_0 23 rfl rfl)
theorem dX14_run_24 : decode cX14_run 24 = .ok (.ireturn, 1) := dk_172 (dk_at dksX14_run_1 0 rfl rfl)
theorem dX14_run_25 : decode cX14_run 25 = .ok (.iinc 2 1, 3) := dk_132 2 1 (dk_at dksX14_run_1 1 rfl rfl)
theorem dX14_run_28 : decode cX14_run 28 = .ok (.goto (-26), 3) := dk_167 255 230 (dk_at dksX14_run_1 4 rfl rfl)
theorem dX14_run_31 : decode cX14_run 31 = .ok (.iconst 0, 1) := dk_3 (dk_at dksX14_run_1 7 rfl rfl)
theorem dX14_run_32 : decode cX14_run 32 = .ok (.ireturn, 1) := dk_172 (dk_at dksX14_run_1 8 rfl rfl)
theorem fl_X14_13 : gFl "BitingDoors$Go" 13 [11] 1 := by
  intro args s hts hN ci hc
  simp only [List.mem_cons, List.not_mem_nil, or_false] at hc
  subst hc
  exact ⟨RX14, TX14, 2, "BitingDoors$Go", gCl_X14, in_X14, by decide, Or.inl (hts _ q1054), fun _ h => h⟩
theorem fl_X14_7 : gFl "BitingDoors$Go" 7 [11] 0 := by
  intro args s hts hN ci hc
  simp only [List.mem_cons, List.not_mem_nil, or_false] at hc
  subst hc
  exact ⟨RX14, TX14, 2, "BitingDoors$Go", gCl_X14, in_X14, by decide, Or.inl (hts _ q1053), fun _ h => h⟩
theorem dn_X14_run : yX14_run.cls ≠ "java/lang/invoke/MethodHandle" ∧ yX14_run.cls ≠ "java/lang/invoke/VarHandle" ∧ (parseMethodDescriptor yX14_run.desc).map (fun d => d.parameters.length) = some 1 := by decide +kernel
noncomputable def M_X14_run (t : Nat) (p1 : Nat) : Mo Int32 := Mo.bind (chk [11] t) (fun _ => Mo.loop (S := Int32) (fun s1 => Mo.bind (gI [11] t 1) (fun v4 => if v4 ≤ s1 then Mo.pure (Sum.inr 0) else Mo.bind (gI [11] t 0) (fun v5 => Mo.bind (M_X3_minute p1 v5) (fun v6 => if v6 ≤ 0 then Mo.lv (s1 + 1) (fun v7 => Mo.pure (Sum.inl v7)) else Mo.pure (Sum.inr v6))))) 0)
set_option maxHeartbeats 4000000 in
theorem ct_X14_run (G : gG) (t : Nat) (p1 : Nat) : gCt G yX14_run cX14_run 4 (some .int) 6 137 [.ref t, .ref p1] (M_X14_run t p1) (fun x : Int32 => some (.int x)) := by
  refine gCt.of (by decide) (Nat.le_of_ble_eq_true rfl) (fun K r hG X hd ho => ?_)
  subst hG
  have X : gX K cX14_run 4 "BitingDoors$Go" "run" (some .int) 6 137 := X
  have hle : gLe (kh1 K) (kh1 K) := gLe.rf
  show V K 4 (kh0 K) 0 [(0, .ref t), (1, .ref p1)] []
  generalize kh0 K = h at hd ⊢
  unfold M_X14_run at hd
  obtain ⟨-, hd⟩ := chk_some hd
  refine v_iconst (v := 0) X dX14_run_0 (by decide) ?_
  refine v_istore_n (lv2 := [(2, .int 0), (0, .ref t), (1, .ref p1)]) X dX14_run_1 2 rfl (by decide) rfl ?_
  refine v_loc [1, 2, 0] rfl ?_
  refine loop_ind hd (fun (s1 : Int32) h => V K 4 h 2 [(0, .ref t), (1, .ref p1), (2, .int s1)] []) (fun s1 h x h2 hd hle0 ih2 ho3 => ?_)
  have hle := hle0.tr hle
  refine v_iload_n X dX14_run_2 2 2 rfl rfl ?_
  refine v_aload_n X dX14_run_3 0 0 rfl rfl ?_
  refine v_getI X hd fl_X14_13 dX14_run_4 (fun v4 hd => ?_)
  refine v_icmp_ge (tgt := 31) X dX14_run_7 (by decide) (fun q => ?_) (fun q => ?_)
  · have hd := ite_t q hd
    refine v_iconst (v := 0) X dX14_run_31 (by decide) ?_
    have hd := lp_out hd ho3
    exact v_iret X hd ho dX14_run_32
  · have hd := ite_f q hd
    refine v_aload_n X dX14_run_10 1 1 rfl rfl ?_
    refine v_aload_n X dX14_run_11 0 0 rfl rfl ?_
    refine v_getI X hd fl_X14_7 dX14_run_12 (fun v5 hd => ?_)
    refine v_callV X hd hle (ct_X3_minute _ p1 v5) gCl_X3 (lw_V q1350 q1298 q1299 q113 q1300) ⟨rfl, dn_X3_minute⟩ rfl ⟨by decide, by decide⟩ rfl (Nat.le_of_ble_eq_true rfl) dX14_run_15 (fun v6 h hd => ?_)
    show V K 4 h 18 [(0, .ref t), (1, .ref p1), (2, .int s1)] [.int v6]
    refine v_istore_n (lv2 := [(3, .int v6), (0, .ref t), (1, .ref p1), (2, .int s1)]) X dX14_run_18 3 rfl (by decide) rfl ?_
    refine v_iload_n X dX14_run_19 0 3 rfl rfl ?_
    refine v_if_le (tgt := 25) X dX14_run_20 (by decide) (fun q => ?_) (fun q => ?_)
    · have hd := ite_t q hd
      refine v_iincL (lv2 := fun v7 => [(2, .int v7), (3, .int v6), (0, .ref t), (1, .ref p1)]) X hd dX14_run_25 3 rfl (by decide : Int32.ofInt 1 = 1) (by decide) (fun v7 => rfl) (fun v7 hd => ?_)
      refine v_goto (tgt := 2) X dX14_run_28 (by decide) ?_
      exact v_loc [2, 3, 0] rfl (lp_in (P := fun (s1 : Int32) h => V K 4 h 2 [(0, .ref t), (1, .ref p1), (2, .int s1)] []) hd ih2)
    · have hd := ite_f q hd
      refine v_iload_n X dX14_run_23 0 3 rfl rfl ?_
      have hd := lp_out hd ho3
      exact v_iret X hd ho dX14_run_24
def dkwX1_clashes_0 : List UInt8 := [42, 42, 180, 0, 90, 180, 1, 30, 182, 1, 76, 172]
abbrev dktX1_clashes_0 : List UInt8 := dkwX1_clashes_0 ++ []
theorem dksX1_clashes_0 : cX1_clashes.data.toList.drop 0 = dktX1_clashes_0 := by decide +kernel
theorem dX1_clashes_0 : decode cX1_clashes 0 = .ok (.aload_n 0, 1) := dk_42 (dk_at dksX1_clashes_0 0 rfl rfl)
theorem dX1_clashes_1 : decode cX1_clashes 1 = .ok (.aload_n 0, 1) := dk_42 (dk_at dksX1_clashes_0 1 rfl rfl)
theorem dX1_clashes_2 : decode cX1_clashes 2 = .ok (.getfield 90, 3) := dk_180 0 90 (dk_at dksX1_clashes_0 2 rfl rfl)
theorem dX1_clashes_5 : decode cX1_clashes 5 = .ok (.getfield 286, 3) := dk_180 1 30 (dk_at dksX1_clashes_0 5 rfl rfl)
theorem dX1_clashes_8 : decode cX1_clashes 8 = .ok (.invokevirtual 332, 3) := dk_182 1 76 (dk_at dksX1_clashes_0 8 rfl rfl)
theorem dX1_clashes_11 : decode cX1_clashes 11 = .ok (.ireturn, 1) := dk_172 (dk_at dksX1_clashes_0 11 rfl rfl)
theorem dn_X1_clashes : yX1_clashes.cls ≠ "java/lang/invoke/MethodHandle" ∧ yX1_clashes.cls ≠ "java/lang/invoke/VarHandle" ∧ (parseMethodDescriptor yX1_clashes.desc).map (fun d => d.parameters.length) = some 0 := by decide +kernel
noncomputable def M_X1_clashes (t : Nat) : Mo Int32 := Mo.bind (chk [0] t) (fun _ => Mo.bind (gR [0] t 9) (fun v1 => Mo.bind (gR [2] v1 1) (fun v2 => Mo.bind (M_X1_pairs t v2) (fun v3 => Mo.pure v3))))
set_option maxHeartbeats 4000000 in
theorem ct_X1_clashes (G : gG) (t : Nat) : gCt G yX1_clashes cX1_clashes 1 (some .int) 2 47 [.ref t] (M_X1_clashes t) (fun x : Int32 => some (.int x)) := by
  refine gCt.of (by decide) (Nat.le_of_ble_eq_true rfl) (fun K r hG X hd ho => ?_)
  subst hG
  have X : gX K cX1_clashes 1 "BitingDoors" "clashes" (some .int) 2 47 := X
  have hle : gLe (kh1 K) (kh1 K) := gLe.rf
  show V K 1 (kh0 K) 0 [(0, .ref t)] []
  generalize kh0 K = h at hd ⊢
  unfold M_X1_clashes at hd
  obtain ⟨-, hd⟩ := chk_some hd
  refine v_aload_n X dX1_clashes_0 0 0 rfl rfl ?_
  refine v_aload_n X dX1_clashes_1 0 0 rfl rfl ?_
  refine v_getR X hd fl_X1_90 dX1_clashes_2 (fun v1 hd => ?_)
  refine v_getR X hd fl_X1_286 dX1_clashes_5 (fun v2 hd => ?_)
  refine v_callV X hd hle (ct_X1_pairs _ t v2) gCl_X1 (lw_V q1155 q1157 qs14 q109 q1158) ⟨rfl, dn_X1_pairs⟩ rfl ⟨by decide, by decide⟩ rfl (Nat.le_of_ble_eq_true rfl) dX1_clashes_8 (fun v3 h hd => ?_)
  show V K 1 h 11 [(0, .ref t)] [.int v3]
  exact v_iret X hd ho dX1_clashes_11
def dkwX1_count_4 : List UInt8 := [180, 0, 100, 180, 0, 240, 172, 42, 180, 0, 194, 172, 2, 172]
abbrev dktX1_count_4 : List UInt8 := dkwX1_count_4 ++ []
def dkwX1_count_3 : List UInt8 := [180, 0, 90, 180, 0, 243, 180, 0, 247, 172, 42, 180, 0, 90, 180, 0, 243, 180, 1, 229, 172, 42]
abbrev dktX1_count_3 : List UInt8 := dkwX1_count_3 ++ dktX1_count_4
def dkwX1_count_2 : List UInt8 := [42, 180, 0, 90, 180, 0, 243, 180, 1, 223, 172, 42, 180, 0, 90, 180, 0, 243, 180, 1, 226, 172, 42]
abbrev dktX1_count_2 : List UInt8 := dkwX1_count_2 ++ dktX1_count_3
def dkwX1_count_1 : List UInt8 := [170, 0, 0, 0, 0, 0, 96, 0, 0, 0, 0, 0, 0, 0, 5, 0, 0, 0, 39, 0, 0, 0, 50, 0, 0, 0, 61, 0, 0, 0, 72, 0, 0, 0, 83, 0, 0, 0, 91]
abbrev dktX1_count_1 : List UInt8 := dkwX1_count_1 ++ dktX1_count_2
def dkwX1_count_0 : List UInt8 := [27]
abbrev dktX1_count_0 : List UInt8 := dkwX1_count_0 ++ dktX1_count_1
theorem dksX1_count_0 : cX1_count.data.toList.drop 0 = dktX1_count_0 := by decide +kernel
theorem dksX1_count_1 : cX1_count.data.toList.drop 1 = dktX1_count_1 := dk_seg dksX1_count_0 1 rfl rfl
theorem dksX1_count_2 : cX1_count.data.toList.drop 40 = dktX1_count_2 := dk_seg dksX1_count_1 39 rfl rfl
theorem dksX1_count_3 : cX1_count.data.toList.drop 63 = dktX1_count_3 := dk_seg dksX1_count_2 23 rfl rfl
theorem dksX1_count_4 : cX1_count.data.toList.drop 85 = dktX1_count_4 := dk_seg dksX1_count_3 22 rfl rfl
theorem dX1_count_0 : decode cX1_count 0 = .ok (.iload_n 1, 1) := dk_27 (dk_at dksX1_count_0 0 rfl rfl)
theorem dX1_count_1 : decode cX1_count 1 = .ok (.tableswitch 96 0 5 #[39, 50, 61, 72, 83, 91], 39) := by decide +kernel
theorem dX1_count_40 : decode cX1_count 40 = .ok (.aload_n 0, 1) := dk_42 (dk_at dksX1_count_2 0 rfl rfl)
theorem dX1_count_41 : decode cX1_count 41 = .ok (.getfield 90, 3) := dk_180 0 90 (dk_at dksX1_count_2 1 rfl rfl)
theorem dX1_count_44 : decode cX1_count 44 = .ok (.getfield 243, 3) := dk_180 0 243 (dk_at dksX1_count_2 4 rfl rfl)
theorem dX1_count_47 : decode cX1_count 47 = .ok (.getfield 479, 3) := dk_180 1 223 (dk_at dksX1_count_2 7 rfl rfl)
theorem dX1_count_50 : decode cX1_count 50 = .ok (.ireturn, 1) := dk_172 (dk_at dksX1_count_2 10 rfl rfl)
theorem dX1_count_51 : decode cX1_count 51 = .ok (.aload_n 0, 1) := dk_42 (dk_at dksX1_count_2 11 rfl rfl)
theorem dX1_count_52 : decode cX1_count 52 = .ok (.getfield 90, 3) := dk_180 0 90 (dk_at dksX1_count_2 12 rfl rfl)
theorem dX1_count_55 : decode cX1_count 55 = .ok (.getfield 243, 3) := dk_180 0 243 (dk_at dksX1_count_2 15 rfl rfl)
theorem dX1_count_58 : decode cX1_count 58 = .ok (.getfield 482, 3) := dk_180 1 226 (dk_at dksX1_count_2 18 rfl rfl)
theorem dX1_count_61 : decode cX1_count 61 = .ok (.ireturn, 1) := dk_172 (dk_at dksX1_count_2 21 rfl rfl)
theorem dX1_count_62 : decode cX1_count 62 = .ok (.aload_n 0, 1) := dk_42 (dk_at dksX1_count_2 22 rfl rfl)
theorem dX1_count_63 : decode cX1_count 63 = .ok (.getfield 90, 3) := dk_180 0 90 (dk_at dksX1_count_3 0 rfl rfl)
theorem dX1_count_66 : decode cX1_count 66 = .ok (.getfield 243, 3) := dk_180 0 243 (dk_at dksX1_count_3 3 rfl rfl)
theorem dX1_count_69 : decode cX1_count 69 = .ok (.getfield 247, 3) := dk_180 0 247 (dk_at dksX1_count_3 6 rfl rfl)
theorem dX1_count_72 : decode cX1_count 72 = .ok (.ireturn, 1) := dk_172 (dk_at dksX1_count_3 9 rfl rfl)
theorem dX1_count_73 : decode cX1_count 73 = .ok (.aload_n 0, 1) := dk_42 (dk_at dksX1_count_3 10 rfl rfl)
theorem dX1_count_74 : decode cX1_count 74 = .ok (.getfield 90, 3) := dk_180 0 90 (dk_at dksX1_count_3 11 rfl rfl)
theorem dX1_count_77 : decode cX1_count 77 = .ok (.getfield 243, 3) := dk_180 0 243 (dk_at dksX1_count_3 14 rfl rfl)
theorem dX1_count_80 : decode cX1_count 80 = .ok (.getfield 485, 3) := dk_180 1 229 (dk_at dksX1_count_3 17 rfl rfl)
theorem dX1_count_83 : decode cX1_count 83 = .ok (.ireturn, 1) := dk_172 (dk_at dksX1_count_3 20 rfl rfl)
theorem dX1_count_84 : decode cX1_count 84 = .ok (.aload_n 0, 1) := dk_42 (dk_at dksX1_count_3 21 rfl rfl)
theorem dX1_count_85 : decode cX1_count 85 = .ok (.getfield 100, 3) := dk_180 0 100 (dk_at dksX1_count_4 0 rfl rfl)
theorem dX1_count_88 : decode cX1_count 88 = .ok (.getfield 240, 3) := dk_180 0 240 (dk_at dksX1_count_4 3 rfl rfl)
theorem dX1_count_91 : decode cX1_count 91 = .ok (.ireturn, 1) := dk_172 (dk_at dksX1_count_4 6 rfl rfl)
theorem dX1_count_92 : decode cX1_count 92 = .ok (.aload_n 0, 1) := dk_42 (dk_at dksX1_count_4 7 rfl rfl)
theorem dX1_count_93 : decode cX1_count 93 = .ok (.getfield 194, 3) := dk_180 0 194 (dk_at dksX1_count_4 8 rfl rfl)
theorem dX1_count_96 : decode cX1_count 96 = .ok (.ireturn, 1) := dk_172 (dk_at dksX1_count_4 11 rfl rfl)
theorem dX1_count_97 : decode cX1_count 97 = .ok (.iconst (-1), 1) := dk_2 (dk_at dksX1_count_4 12 rfl rfl)
theorem dX1_count_98 : decode cX1_count 98 = .ok (.ireturn, 1) := dk_172 (dk_at dksX1_count_4 13 rfl rfl)
theorem fl_X1_240 : gFl "BitingDoors" 240 [4] 1 := by
  intro args s hts hN ci hc
  simp only [List.mem_cons, List.not_mem_nil, or_false] at hc
  subst hc
  exact ⟨RX5, TX5, 2, "BitingDoors$Day", gCl_X5, in_X5, by decide, Or.inr ⟨"BitingDoors", va_Nw.use rfl (hN.1 ("BitingDoors", 240, "BitingDoors$Day", "many", "I", "BitingDoors") (List.mem_of_getElem? (i := 14) rfl))⟩, fun _ h => h⟩
theorem fl_X1_479 : gFl "BitingDoors" 479 [3] 4 := by
  intro args s hts hN ci hc
  simp only [List.mem_cons, List.not_mem_nil, or_false] at hc
  subst hc
  exact ⟨RX4, TX4, 9, "BitingDoors$House", gCl_X4, in_X4, by decide, Or.inr ⟨"BitingDoors", va_Nw.use rfl (hN.1 ("BitingDoors", 479, "BitingDoors$House", "columns", "I", "BitingDoors") (List.mem_of_getElem? (i := 2) rfl))⟩, fun _ h => h⟩
theorem fl_X1_482 : gFl "BitingDoors" 482 [3] 5 := by
  intro args s hts hN ci hc
  simp only [List.mem_cons, List.not_mem_nil, or_false] at hc
  subst hc
  exact ⟨RX4, TX4, 9, "BitingDoors$House", gCl_X4, in_X4, by decide, Or.inr ⟨"BitingDoors", va_Nw.use rfl (hN.1 ("BitingDoors", 482, "BitingDoors$House", "rows", "I", "BitingDoors") (List.mem_of_getElem? (i := 3) rfl))⟩, fun _ h => h⟩
theorem fl_X1_485 : gFl "BitingDoors" 485 [3] 7 := by
  intro args s hts hN ci hc
  simp only [List.mem_cons, List.not_mem_nil, or_false] at hc
  subst hc
  exact ⟨RX4, TX4, 9, "BitingDoors$House", gCl_X4, in_X4, by decide, Or.inr ⟨"BitingDoors", va_Nw.use rfl (hN.1 ("BitingDoors", 485, "BitingDoors$House", "draughtMany", "I", "BitingDoors") (List.mem_of_getElem? (i := 5) rfl))⟩, fun _ h => h⟩
theorem dn_X1_count : yX1_count.cls ≠ "java/lang/invoke/MethodHandle" ∧ yX1_count.cls ≠ "java/lang/invoke/VarHandle" ∧ (parseMethodDescriptor yX1_count.desc).map (fun d => d.parameters.length) = some 1 := by decide +kernel
noncomputable def M_X1_count (t : Nat) (p1 : Int32) : Mo Int32 := Mo.bind (chk [0] t) (fun _ => if p1 = 0 then Mo.bind (gR [0] t 9) (fun v13 => Mo.bind (gR [2] v13 0) (fun v14 => Mo.bind (gI [3] v14 4) (fun v15 => Mo.pure v15))) else if p1 = 1 then Mo.bind (gR [0] t 9) (fun v10 => Mo.bind (gR [2] v10 0) (fun v11 => Mo.bind (gI [3] v11 5) (fun v12 => Mo.pure v12))) else if p1 = 2 then Mo.bind (gR [0] t 9) (fun v7 => Mo.bind (gR [2] v7 0) (fun v8 => Mo.bind (gI [3] v8 6) (fun v9 => Mo.pure v9))) else if p1 = 3 then Mo.bind (gR [0] t 9) (fun v4 => Mo.bind (gR [2] v4 0) (fun v5 => Mo.bind (gI [3] v5 7) (fun v6 => Mo.pure v6))) else if p1 = 4 then Mo.bind (gR [0] t 11) (fun v2 => Mo.bind (gI [4] v2 1) (fun v3 => Mo.pure v3)) else if p1 = 5 then Mo.bind (gI [0] t 1) (fun v1 => Mo.pure v1) else Mo.pure (-1))
set_option maxHeartbeats 4000000 in
theorem ct_X1_count (G : gG) (t : Nat) (p1 : Int32) : gCt G yX1_count cX1_count 2 (some .int) 0 0 [.ref t, .int p1] (M_X1_count t p1) (fun x : Int32 => some (.int x)) := by
  refine gCt.of (by decide) (Nat.le_of_ble_eq_true rfl) (fun K r hG X hd ho => ?_)
  subst hG
  have X : gX K cX1_count 2 "BitingDoors" "count" (some .int) 0 0 := X
  have hle : gLe (kh1 K) (kh1 K) := gLe.rf
  show V K 2 (kh0 K) 0 [(0, .ref t), (1, .int p1)] []
  generalize kh0 K = h at hd ⊢
  unfold M_X1_count at hd
  obtain ⟨-, hd⟩ := chk_some hd
  refine v_iload_n X dX1_count_0 1 1 rfl rfl ?_
  by_cases q0 : p1 = 0
  · have hd := ite_t q0 hd
    refine v_tableIn (k := 0) (off := 39) (tgt := 40) X dX1_count_1 q0 (by decide) (by decide) rfl (by decide) ?_
    refine v_aload_n X dX1_count_40 0 0 rfl rfl ?_
    refine v_getR X hd fl_X1_90 dX1_count_41 (fun v13 hd => ?_)
    refine v_getR X hd fl_X1_243 dX1_count_44 (fun v14 hd => ?_)
    refine v_getI X hd fl_X1_479 dX1_count_47 (fun v15 hd => ?_)
    exact v_iret X hd ho dX1_count_50
  · have hd := ite_f q0 hd
    by_cases q1 : p1 = 1
    · have hd := ite_t q1 hd
      refine v_tableIn (k := 1) (off := 50) (tgt := 51) X dX1_count_1 q1 (by decide) (by decide) rfl (by decide) ?_
      refine v_aload_n X dX1_count_51 0 0 rfl rfl ?_
      refine v_getR X hd fl_X1_90 dX1_count_52 (fun v10 hd => ?_)
      refine v_getR X hd fl_X1_243 dX1_count_55 (fun v11 hd => ?_)
      refine v_getI X hd fl_X1_482 dX1_count_58 (fun v12 hd => ?_)
      exact v_iret X hd ho dX1_count_61
    · have hd := ite_f q1 hd
      by_cases q2 : p1 = 2
      · have hd := ite_t q2 hd
        refine v_tableIn (k := 2) (off := 61) (tgt := 62) X dX1_count_1 q2 (by decide) (by decide) rfl (by decide) ?_
        refine v_aload_n X dX1_count_62 0 0 rfl rfl ?_
        refine v_getR X hd fl_X1_90 dX1_count_63 (fun v7 hd => ?_)
        refine v_getR X hd fl_X1_243 dX1_count_66 (fun v8 hd => ?_)
        refine v_getI X hd fl_X1_247 dX1_count_69 (fun v9 hd => ?_)
        exact v_iret X hd ho dX1_count_72
      · have hd := ite_f q2 hd
        by_cases q3 : p1 = 3
        · have hd := ite_t q3 hd
          refine v_tableIn (k := 3) (off := 72) (tgt := 73) X dX1_count_1 q3 (by decide) (by decide) rfl (by decide) ?_
          refine v_aload_n X dX1_count_73 0 0 rfl rfl ?_
          refine v_getR X hd fl_X1_90 dX1_count_74 (fun v4 hd => ?_)
          refine v_getR X hd fl_X1_243 dX1_count_77 (fun v5 hd => ?_)
          refine v_getI X hd fl_X1_485 dX1_count_80 (fun v6 hd => ?_)
          exact v_iret X hd ho dX1_count_83
        · have hd := ite_f q3 hd
          by_cases q4 : p1 = 4
          · have hd := ite_t q4 hd
            refine v_tableIn (k := 4) (off := 83) (tgt := 84) X dX1_count_1 q4 (by decide) (by decide) rfl (by decide) ?_
            refine v_aload_n X dX1_count_84 0 0 rfl rfl ?_
            refine v_getR X hd fl_X1_100 dX1_count_85 (fun v2 hd => ?_)
            refine v_getI X hd fl_X1_240 dX1_count_88 (fun v3 hd => ?_)
            exact v_iret X hd ho dX1_count_91
          · have hd := ite_f q4 hd
            by_cases q5 : p1 = 5
            · have hd := ite_t q5 hd
              refine v_tableIn (k := 5) (off := 91) (tgt := 92) X dX1_count_1 q5 (by decide) (by decide) rfl (by decide) ?_
              refine v_aload_n X dX1_count_92 0 0 rfl rfl ?_
              refine v_getI X hd fl_X1_194 dX1_count_93 (fun v1 hd => ?_)
              exact v_iret X hd ho dX1_count_96
            · have hd := ite_f q5 hd
              have eq0 := lv_neT q0 (k := 0) (a := 0) (by decide)
              have eq1 := lv_neT q1 (k := 1) (a := 1) (by decide)
              have eq2 := lv_neT q2 (k := 2) (a := 2) (by decide)
              have eq3 := lv_neT q3 (k := 3) (a := 3) (by decide)
              have eq4 := lv_neT q4 (k := 4) (a := 4) (by decide)
              have eq5 := lv_neT q5 (k := 5) (a := 5) (by decide)
              refine v_tableOut (tgt := 97) X dX1_count_1 (by omega) (by decide) ?_
              refine v_iconst (v := (-1)) X dX1_count_97 (by decide) ?_
              exact v_iret X hd ho dX1_count_98
def dkwX1_walk_2 : List UInt8 := [154, 0, 9, 132, 1, 1, 167, 255, 206, 27, 172]
abbrev dktX1_walk_2 : List UInt8 := dkwX1_walk_2 ++ []
def dkwX1_walk_1 : List UInt8 := [180, 0, 243, 180, 0, 247, 104, 96, 162, 0, 25, 42, 180, 0, 90, 42, 180, 0, 166, 27, 46, 182, 1, 163]
abbrev dktX1_walk_1 : List UInt8 := dkwX1_walk_1 ++ dktX1_walk_2
def dkwX1_walk_0 : List UInt8 := [3, 60, 27, 42, 180, 1, 199, 162, 0, 48, 42, 180, 0, 166, 27, 46, 7, 5, 42, 180, 0, 90]
abbrev dktX1_walk_0 : List UInt8 := dkwX1_walk_0 ++ dktX1_walk_1
theorem dksX1_walk_0 : cX1_walk.data.toList.drop 0 = dktX1_walk_0 := by decide +kernel
theorem dksX1_walk_1 : cX1_walk.data.toList.drop 22 = dktX1_walk_1 := dk_seg dksX1_walk_0 22 rfl rfl
theorem dksX1_walk_2 : cX1_walk.data.toList.drop 46 = dktX1_walk_2 := dk_seg dksX1_walk_1 24 rfl rfl
theorem dX1_walk_0 : decode cX1_walk 0 = .ok (.iconst 0, 1) := dk_3 (dk_at dksX1_walk_0 0 rfl rfl)
theorem dX1_walk_1 : decode cX1_walk 1 = .ok (.istore_n 1, 1) := dk_60 (dk_at dksX1_walk_0 1 rfl rfl)
theorem dX1_walk_2 : decode cX1_walk 2 = .ok (.iload_n 1, 1) := dk_27 (dk_at dksX1_walk_0 2 rfl rfl)
theorem dX1_walk_3 : decode cX1_walk 3 = .ok (.aload_n 0, 1) := dk_42 (dk_at dksX1_walk_0 3 rfl rfl)
theorem dX1_walk_4 : decode cX1_walk 4 = .ok (.getfield 455, 3) := dk_180 1 199 (dk_at dksX1_walk_0 4 rfl rfl)
theorem dX1_walk_7 : decode cX1_walk 7 = .ok (.if_icmp .ge 48, 3) := dk_162 0 48 (dk_at dksX1_walk_0 7 rfl rfl)
theorem dX1_walk_10 : decode cX1_walk 10 = .ok (.aload_n 0, 1) := dk_42 (dk_at dksX1_walk_0 10 rfl rfl)
theorem dX1_walk_11 : decode cX1_walk 11 = .ok (.getfield 166, 3) := dk_180 0 166 (dk_at dksX1_walk_0 11 rfl rfl)
theorem dX1_walk_14 : decode cX1_walk 14 = .ok (.iload_n 1, 1) := dk_27 (dk_at dksX1_walk_0 14 rfl rfl)
theorem dX1_walk_15 : decode cX1_walk 15 = .ok (.iaload, 1) := dk_46 (dk_at dksX1_walk_0 15 rfl rfl)
theorem dX1_walk_16 : decode cX1_walk 16 = .ok (.iconst 4, 1) := dk_7 (dk_at dksX1_walk_0 16 rfl rfl)
theorem dX1_walk_17 : decode cX1_walk 17 = .ok (.iconst 2, 1) := dk_5 (dk_at dksX1_walk_0 17 rfl rfl)
theorem dX1_walk_18 : decode cX1_walk 18 = .ok (.aload_n 0, 1) := dk_42 (dk_at dksX1_walk_0 18 rfl rfl)
theorem dX1_walk_19 : decode cX1_walk 19 = .ok (.getfield 90, 3) := dk_180 0 90 (dk_at dksX1_walk_0 19 rfl rfl)
theorem dX1_walk_22 : decode cX1_walk 22 = .ok (.getfield 243, 3) := dk_180 0 243 (dk_at dksX1_walk_1 0 rfl rfl)
theorem dX1_walk_25 : decode cX1_walk 25 = .ok (.getfield 247, 3) := dk_180 0 247 (dk_at dksX1_walk_1 3 rfl rfl)
theorem dX1_walk_28 : decode cX1_walk 28 = .ok (.imul, 1) := dk_104 (dk_at dksX1_walk_1 6 rfl rfl)
theorem dX1_walk_29 : decode cX1_walk 29 = .ok (.iadd, 1) := dk_96 (dk_at dksX1_walk_1 7 rfl rfl)
theorem dX1_walk_30 : decode cX1_walk 30 = .ok (.if_icmp .ge 25, 3) := dk_162 0 25 (dk_at dksX1_walk_1 8 rfl rfl)
theorem dX1_walk_33 : decode cX1_walk 33 = .ok (.aload_n 0, 1) := dk_42 (dk_at dksX1_walk_1 11 rfl rfl)
theorem dX1_walk_34 : decode cX1_walk 34 = .ok (.getfield 90, 3) := dk_180 0 90 (dk_at dksX1_walk_1 12 rfl rfl)
theorem dX1_walk_37 : decode cX1_walk 37 = .ok (.aload_n 0, 1) := dk_42 (dk_at dksX1_walk_1 15 rfl rfl)
theorem dX1_walk_38 : decode cX1_walk 38 = .ok (.getfield 166, 3) := dk_180 0 166 (dk_at dksX1_walk_1 16 rfl rfl)
theorem dX1_walk_41 : decode cX1_walk 41 = .ok (.iload_n 1, 1) := dk_27 (dk_at dksX1_walk_1 19 rfl rfl)
theorem dX1_walk_42 : decode cX1_walk 42 = .ok (.iaload, 1) := dk_46 (dk_at dksX1_walk_1 20 rfl rfl)
theorem dX1_walk_43 : decode cX1_walk 43 = .ok (.invokevirtual 419, 3) := dk_182 1 163 (dk_at dksX1_walk_1 21 rfl rfl)
theorem dX1_walk_46 : decode cX1_walk 46 = .ok (.ifCond .ne 9, 3) := dk_154 0 9 (dk_at dksX1_walk_2 0 rfl rfl)
theorem dX1_walk_49 : decode cX1_walk 49 = .ok (.iinc 1 1, 3) := dk_132 1 1 (dk_at dksX1_walk_2 3 rfl rfl)
theorem dX1_walk_52 : decode cX1_walk 52 = .ok (.goto (-50), 3) := dk_167 255 206 (dk_at dksX1_walk_2 6 rfl rfl)
theorem dX1_walk_55 : decode cX1_walk 55 = .ok (.iload_n 1, 1) := dk_27 (dk_at dksX1_walk_2 9 rfl rfl)
theorem dX1_walk_56 : decode cX1_walk 56 = .ok (.ireturn, 1) := dk_172 (dk_at dksX1_walk_2 10 rfl rfl)
theorem dn_X1_walk : yX1_walk.cls ≠ "java/lang/invoke/MethodHandle" ∧ yX1_walk.cls ≠ "java/lang/invoke/VarHandle" ∧ (parseMethodDescriptor yX1_walk.desc).map (fun d => d.parameters.length) = some 0 := by decide +kernel
noncomputable def M_X1_walk (t : Nat) : Mo Int32 := Mo.bind (chk [0] t) (fun _ => Mo.bind (Mo.loop (S := Int32) (E := Int32) (fun s1 => Mo.bind (gI [0] t 39) (fun v5 => if v5 ≤ s1 then Mo.pure (Sum.inr s1) else Mo.bind (gR [0] t 37) (fun v6 => Mo.bind (aldI 0 v6 s1) (fun v7 => Mo.bind (gR [0] t 9) (fun v8 => Mo.bind (gR [2] v8 0) (fun v9 => Mo.bind (gI [3] v9 6) (fun v10 => if (4 + (2 * v10)) ≤ v7 then Mo.pure (Sum.inr s1) else Mo.bind (gR [0] t 9) (fun v11 => Mo.bind (gR [0] t 37) (fun v12 => Mo.bind (aldI 0 v12 s1) (fun v13 => Mo.bind (M_X3_minute v11 v13) (fun v14 => if v14 = 0 then Mo.lv (s1 + 1) (fun v15 => Mo.pure (Sum.inl v15)) else Mo.pure (Sum.inr s1)))))))))))) 0) (fun e4 => Mo.pure e4))
set_option maxHeartbeats 4000000 in
theorem ct_X1_walk (G : gG) (t : Nat) : gCt G yX1_walk cX1_walk 2 (some .int) 6 137 [.ref t] (M_X1_walk t) (fun x : Int32 => some (.int x)) := by
  refine gCt.of (by decide) (Nat.le_of_ble_eq_true rfl) (fun K r hG X hd ho => ?_)
  subst hG
  have X : gX K cX1_walk 2 "BitingDoors" "walk" (some .int) 6 137 := X
  have hle : gLe (kh1 K) (kh1 K) := gLe.rf
  show V K 2 (kh0 K) 0 [(0, .ref t)] []
  generalize kh0 K = h at hd ⊢
  unfold M_X1_walk at hd
  obtain ⟨-, hd⟩ := chk_some hd
  refine v_iconst (v := 0) X dX1_walk_0 (by decide) ?_
  refine v_istore_n (lv2 := [(1, .int 0), (0, .ref t)]) X dX1_walk_1 1 rfl (by decide) rfl ?_
  obtain ⟨e4, h1, hd, hd2⟩ := Mo.bind_some hd
  have KX : V K 2 h1 55 [(1, .int e4)] [] := by
    clear hd
    have hd := hd2
    refine v_iload_n X dX1_walk_55 0 1 rfl rfl ?_
    exact v_iret X hd ho dX1_walk_56
  have hle := (Mo.le hd2).tr hle
  clear hd2
  refine v_loc [1, 0] rfl ?_
  refine loop_ind hd (fun (s1 : Int32) h => V K 2 h 2 [(0, .ref t), (1, .int s1)] []) (fun s1 h x h2 hd hle0 ih2 ho3 => ?_)
  have hle := hle0.tr hle
  refine v_iload_n X dX1_walk_2 1 1 rfl rfl ?_
  refine v_aload_n X dX1_walk_3 0 0 rfl rfl ?_
  refine v_getI X hd fl_X1_455 dX1_walk_4 (fun v5 hd => ?_)
  refine v_icmp_ge (tgt := 55) X dX1_walk_7 (by decide) (fun q => ?_) (fun q => ?_)
  · have hd := ite_t q hd
    exact v_loc [1] rfl (v_at (P := fun (e4 : Int32) h => V K 2 h 55 [(1, .int e4)] []) (lp_out hd ho3) KX)
  · have hd := ite_f q hd
    refine v_aload_n X dX1_walk_10 0 0 rfl rfl ?_
    refine v_getR X hd fl_X1_166 dX1_walk_11 (fun v6 hd => ?_)
    refine v_iload_n X dX1_walk_14 1 1 rfl rfl ?_
    refine v_iald X hd dX1_walk_15 (fun v7 hd => ?_)
    refine v_iconst (v := 4) X dX1_walk_16 (by decide) ?_
    refine v_iconst (v := 2) X dX1_walk_17 (by decide) ?_
    refine v_aload_n X dX1_walk_18 0 0 rfl rfl ?_
    refine v_getR X hd fl_X1_90 dX1_walk_19 (fun v8 hd => ?_)
    refine v_getR X hd fl_X1_243 dX1_walk_22 (fun v9 hd => ?_)
    refine v_getI X hd fl_X1_247 dX1_walk_25 (fun v10 hd => ?_)
    refine v_imul X dX1_walk_28 ?_
    refine v_iadd X dX1_walk_29 ?_
    refine v_icmp_ge (tgt := 55) X dX1_walk_30 (by decide) (fun q => ?_) (fun q => ?_)
    · have hd := ite_t q hd
      exact v_loc [1] rfl (v_at (P := fun (e4 : Int32) h => V K 2 h 55 [(1, .int e4)] []) (lp_out hd ho3) KX)
    · have hd := ite_f q hd
      refine v_aload_n X dX1_walk_33 0 0 rfl rfl ?_
      refine v_getR X hd fl_X1_90 dX1_walk_34 (fun v11 hd => ?_)
      refine v_aload_n X dX1_walk_37 0 0 rfl rfl ?_
      refine v_getR X hd fl_X1_166 dX1_walk_38 (fun v12 hd => ?_)
      refine v_iload_n X dX1_walk_41 1 1 rfl rfl ?_
      refine v_iald X hd dX1_walk_42 (fun v13 hd => ?_)
      refine v_callV X hd hle (ct_X3_minute _ v11 v13) gCl_X3 (lw_V q1297 q1298 q1299 q113 q1300) ⟨rfl, dn_X3_minute⟩ rfl ⟨by decide, by decide⟩ rfl (Nat.le_of_ble_eq_true rfl) dX1_walk_43 (fun v14 h hd => ?_)
      show V K 2 h 46 [(0, .ref t), (1, .int s1)] [.int v14]
      refine v_if_ne (tgt := 55) X dX1_walk_46 (by decide) (fun q => ?_) (fun q => ?_)
      · have hd := ite_f q hd
        exact v_loc [1] rfl (v_at (P := fun (e4 : Int32) h => V K 2 h 55 [(1, .int e4)] []) (lp_out hd ho3) KX)
      · have hd := ite_t q hd
        refine v_iincL (lv2 := fun v15 => [(1, .int v15), (0, .ref t)]) X hd dX1_walk_49 1 rfl (by decide : Int32.ofInt 1 = 1) (by decide) (fun v15 => rfl) (fun v15 hd => ?_)
        refine v_goto (tgt := 2) X dX1_walk_52 (by decide) ?_
        exact v_loc [1, 0] rfl (lp_in (P := fun (s1 : Int32) h => V K 2 h 2 [(0, .ref t), (1, .int s1)] []) hd ih2)
