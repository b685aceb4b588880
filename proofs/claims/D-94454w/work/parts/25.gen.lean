set_option maxRecDepth 100000
def dkwX1_reach_6 : List UInt8 := [167, 255, 208, 28, 172]
abbrev dktX1_reach_6 : List UInt8 := dkwX1_reach_6 ++ []
def dkwX1_reach_5 : List UInt8 := [51, 153, 0, 7, 3, 167, 0, 4, 4, 96, 61, 42, 180, 0, 169, 21, 4, 4, 84, 132, 3, 1]
abbrev dktX1_reach_5 : List UInt8 := dkwX1_reach_5 ++ dktX1_reach_6
def dkwX1_reach_4 : List UInt8 := [180, 1, 190, 162, 0, 46, 42, 180, 0, 163, 29, 46, 16, 100, 112, 54, 4, 28, 42, 180, 0, 169, 21, 4]
abbrev dktX1_reach_4 : List UInt8 := dkwX1_reach_4 ++ dktX1_reach_5
def dkwX1_reach_3 : List UInt8 := [180, 0, 90, 180, 1, 162, 182, 1, 208, 172, 42, 2, 182, 1, 196, 87, 3, 61, 3, 62, 29, 42]
abbrev dktX1_reach_3 : List UInt8 := dkwX1_reach_3 ++ dktX1_reach_4
def dkwX1_reach_2 : List UInt8 := [16, 100, 162, 0, 16, 42, 180, 0, 169, 28, 3, 84, 132, 2, 1, 167, 255, 240, 27, 154, 0, 15, 42, 42]
abbrev dktX1_reach_2 : List UInt8 := dkwX1_reach_2 ++ dktX1_reach_3
def dkwX1_reach_1 : List UInt8 := [160, 0, 20, 42, 180, 0, 90, 180, 0, 243, 180, 0, 247, 8, 164, 0, 6, 16, 254, 172, 3, 61, 28]
abbrev dktX1_reach_1 : List UInt8 := dkwX1_reach_1 ++ dktX1_reach_2
def dkwX1_reach_0 : List UInt8 := [27, 3, 4, 184, 0, 248, 153, 0, 14, 42, 180, 0, 90, 180, 1, 162, 2, 160, 0, 5, 2, 172, 27, 4]
abbrev dktX1_reach_0 : List UInt8 := dkwX1_reach_0 ++ dktX1_reach_1
theorem dksX1_reach_0 : cX1_reach.data.toList.drop 0 = dktX1_reach_0 := by decide +kernel
theorem dksX1_reach_1 : cX1_reach.data.toList.drop 24 = dktX1_reach_1 := dk_seg dksX1_reach_0 24 rfl rfl
theorem dksX1_reach_2 : cX1_reach.data.toList.drop 47 = dktX1_reach_2 := dk_seg dksX1_reach_1 23 rfl rfl
theorem dksX1_reach_3 : cX1_reach.data.toList.drop 71 = dktX1_reach_3 := dk_seg dksX1_reach_2 24 rfl rfl
theorem dksX1_reach_4 : cX1_reach.data.toList.drop 93 = dktX1_reach_4 := dk_seg dksX1_reach_3 22 rfl rfl
theorem dksX1_reach_5 : cX1_reach.data.toList.drop 117 = dktX1_reach_5 := dk_seg dksX1_reach_4 24 rfl rfl
theorem dksX1_reach_6 : cX1_reach.data.toList.drop 139 = dktX1_reach_6 := dk_seg dksX1_reach_5 22 rfl rfl
theorem dX1_reach_0 : decode cX1_reach 0 = .ok (.iload_n 1, 1) := dk_27 (dk_at dksX1_reach_0 0 rfl rfl)
theorem dX1_reach_1 : decode cX1_reach 1 = .ok (.iconst 0, 1) := dk_3 (dk_at dksX1_reach_0 1 rfl rfl)
theorem dX1_reach_2 : decode cX1_reach 2 = .ok (.iconst 1, 1) := dk_4 (dk_at dksX1_reach_0 2 rfl rfl)
theorem dX1_reach_3 : decode cX1_reach 3 = .ok (.invokestatic 248, 3) := dk_184 0 248 (dk_at dksX1_reach_0 3 rfl rfl)
theorem dX1_reach_6 : decode cX1_reach 6 = .ok (.ifCond .eq 14, 3) := dk_153 0 14 (dk_at dksX1_reach_0 6 rfl rfl)
theorem dX1_reach_9 : decode cX1_reach 9 = .ok (.aload_n 0, 1) := dk_42 (dk_at dksX1_reach_0 9 rfl rfl)
theorem dX1_reach_10 : decode cX1_reach 10 = .ok (.getfield 90, 3) := dk_180 0 90 (dk_at dksX1_reach_0 10 rfl rfl)
theorem dX1_reach_13 : decode cX1_reach 13 = .ok (.getfield 418, 3) := dk_180 1 162 (dk_at dksX1_reach_0 13 rfl rfl)
theorem dX1_reach_16 : decode cX1_reach 16 = .ok (.iconst (-1), 1) := dk_2 (dk_at dksX1_reach_0 16 rfl rfl)
theorem dX1_reach_17 : decode cX1_reach 17 = .ok (.if_icmp .ne 5, 3) := dk_160 0 5 (dk_at dksX1_reach_0 17 rfl rfl)
theorem dX1_reach_20 : decode cX1_reach 20 = .ok (.iconst (-1), 1) := dk_2 (dk_at dksX1_reach_0 20 rfl rfl)
theorem dX1_reach_21 : decode cX1_reach 21 = .ok (.ireturn, 1) := dk_172 (dk_at dksX1_reach_0 21 rfl rfl)
theorem dX1_reach_22 : decode cX1_reach 22 = .ok (.iload_n 1, 1) := dk_27 (dk_at dksX1_reach_0 22 rfl rfl)
theorem dX1_reach_23 : decode cX1_reach 23 = .ok (.iconst 1, 1) := dk_4 (dk_at dksX1_reach_0 23 rfl rfl)
theorem dX1_reach_24 : decode cX1_reach 24 = .ok (.if_icmp .ne 20, 3) := dk_160 0 20 (dk_at dksX1_reach_1 0 rfl rfl)
theorem dX1_reach_27 : decode cX1_reach 27 = .ok (.aload_n 0, 1) := dk_42 (dk_at dksX1_reach_1 3 rfl rfl)
theorem dX1_reach_28 : decode cX1_reach 28 = .ok (.getfield 90, 3) := dk_180 0 90 (dk_at dksX1_reach_1 4 rfl rfl)
theorem dX1_reach_31 : decode cX1_reach 31 = .ok (.getfield 243, 3) := dk_180 0 243 (dk_at dksX1_reach_1 7 rfl rfl)
theorem dX1_reach_34 : decode cX1_reach 34 = .ok (.getfield 247, 3) := dk_180 0 247 (dk_at dksX1_reach_1 10 rfl rfl)
theorem dX1_reach_37 : decode cX1_reach 37 = .ok (.iconst 5, 1) := dk_8 (dk_at dksX1_reach_1 13 rfl rfl)
theorem dX1_reach_38 : decode cX1_reach 38 = .ok (.if_icmp .le 6, 3) := dk_164 0 6 (dk_at dksX1_reach_1 14 rfl rfl)
theorem dX1_reach_41 : decode cX1_reach 41 = .ok (.bipush (-2), 2) := dk_16 254 (dk_at dksX1_reach_1 17 rfl rfl)
theorem dX1_reach_43 : decode cX1_reach 43 = .ok (.ireturn, 1) := dk_172 (dk_at dksX1_reach_1 19 rfl rfl)
theorem dX1_reach_44 : decode cX1_reach 44 = .ok (.iconst 0, 1) := dk_3 (dk_at dksX1_reach_1 20 rfl rfl)
theorem dX1_reach_45 : decode cX1_reach 45 = .ok (.istore_n 2, 1) := dk_61 (dk_at dksX1_reach_1 21 rfl rfl)
theorem dX1_reach_46 : decode cX1_reach 46 = .ok (.iload_n 2, 1) := dk_28 (dk_at dksX1_reach_1 22 rfl rfl)
theorem dX1_reach_47 : decode cX1_reach 47 = .ok (.bipush 100, 2) := dk_16 100 (dk_at dksX1_reach_2 0 rfl rfl)
theorem dX1_reach_49 : decode cX1_reach 49 = .ok (.if_icmp .ge 16, 3) := dk_162 0 16 (dk_at dksX1_reach_2 2 rfl rfl)
theorem dX1_reach_52 : decode cX1_reach 52 = .ok (.aload_n 0, 1) := dk_42 (dk_at dksX1_reach_2 5 rfl rfl)
theorem dX1_reach_53 : decode cX1_reach 53 = .ok (.getfield 169, 3) := dk_180 0 169 (dk_at dksX1_reach_2 6 rfl rfl)
theorem dX1_reach_56 : decode cX1_reach 56 = .ok (.iload_n 2, 1) := dk_28 (dk_at dksX1_reach_2 9 rfl rfl)
theorem dX1_reach_57 : decode cX1_reach 57 = .ok (.iconst 0, 1) := dk_3 (dk_at dksX1_reach_2 10 rfl rfl)
theorem dX1_reach_58 : decode cX1_reach 58 = .ok (.bastore, 1) := dk_84 (dk_at dksX1_reach_2 11 rfl rfl)
theorem dX1_reach_59 : decode cX1_reach 59 = .ok (.iinc 2 1, 3) := dk_132 2 1 (dk_at dksX1_reach_2 12 rfl rfl)
theorem dX1_reach_62 : decode cX1_reach 62 = .ok (.goto (-16), 3) := dk_167 255 240 (dk_at dksX1_reach_2 15 rfl rfl)
theorem dX1_reach_65 : decode cX1_reach 65 = .ok (.iload_n 1, 1) := dk_27 (dk_at dksX1_reach_2 18 rfl rfl)
theorem dX1_reach_66 : decode cX1_reach 66 = .ok (.ifCond .ne 15, 3) := dk_154 0 15 (dk_at dksX1_reach_2 19 rfl rfl)
theorem dX1_reach_69 : decode cX1_reach 69 = .ok (.aload_n 0, 1) := dk_42 (dk_at dksX1_reach_2 22 rfl rfl)
theorem dX1_reach_70 : decode cX1_reach 70 = .ok (.aload_n 0, 1) := dk_42 (dk_at dksX1_reach_2 23 rfl rfl)
theorem dX1_reach_71 : decode cX1_reach 71 = .ok (.getfield 90, 3) := dk_180 0 90 (dk_at dksX1_reach_3 0 rfl rfl)
theorem dX1_reach_74 : decode cX1_reach 74 = .ok (.getfield 418, 3) := dk_180 1 162 (dk_at dksX1_reach_3 3 rfl rfl)
theorem dX1_reach_77 : decode cX1_reach 77 = .ok (.invokevirtual 464, 3) := dk_182 1 208 (dk_at dksX1_reach_3 6 rfl rfl)
theorem dX1_reach_80 : decode cX1_reach 80 = .ok (.ireturn, 1) := dk_172 (dk_at dksX1_reach_3 9 rfl rfl)
theorem dX1_reach_81 : decode cX1_reach 81 = .ok (.aload_n 0, 1) := dk_42 (dk_at dksX1_reach_3 10 rfl rfl)
theorem dX1_reach_82 : decode cX1_reach 82 = .ok (.iconst (-1), 1) := dk_2 (dk_at dksX1_reach_3 11 rfl rfl)
theorem dX1_reach_83 : decode cX1_reach 83 = .ok (.invokevirtual 452, 3) := dk_182 1 196 (dk_at dksX1_reach_3 12 rfl rfl)
theorem dX1_reach_86 : decode cX1_reach 86 = .ok (.pop, 1) := dk_87 (dk_at dksX1_reach_3 15 rfl rfl)
theorem dX1_reach_87 : decode cX1_reach 87 = .ok (.iconst 0, 1) := dk_3 (dk_at dksX1_reach_3 16 rfl rfl)
theorem dX1_reach_88 : decode cX1_reach 88 = .ok (.istore_n 2, 1) := dk_61 (dk_at dksX1_reach_3 17 rfl rfl)
theorem dX1_reach_89 : decode cX1_reach 89 = .ok (.iconst 0, 1) := dk_3 (dk_at dksX1_reach_3 18 rfl rfl)
theorem dX1_reach_90 : decode cX1_reach 90 = .ok (.istore_n 3, 1) := dk_62 (dk_at dksX1_reach_3 19 rfl rfl)
theorem dX1_reach_91 : decode cX1_reach 91 = .ok (.iload_n 3, 1) := dk_29 (dk_at dksX1_reach_3 20 rfl rfl)
theorem dX1_reach_92 : decode cX1_reach 92 = .ok (.aload_n 0, 1) := dk_42 (dk_at dksX1_reach_3 21 rfl rfl)
theorem dX1_reach_93 : decode cX1_reach 93 = .ok (.getfield 446, 3) := dk_180 1 190 (dk_at dksX1_reach_4 0 rfl rfl)
theorem dX1_reach_96 : decode cX1_reach 96 = .ok (.if_icmp .ge 46, 3) := dk_162 0 46 (dk_at dksX1_reach_4 3 rfl rfl)
theorem dX1_reach_99 : decode cX1_reach 99 = .ok (.aload_n 0, 1) := dk_42 (dk_at dksX1_reach_4 6 rfl rfl)
theorem dX1_reach_100 : decode cX1_reach 100 = .ok (.getfield 163, 3) := dk_180 0 163 (dk_at dksX1_reach_4 7 rfl rfl)
theorem dX1_reach_103 : decode cX1_reach 103 = .ok (.iload_n 3, 1) := dk_29 (dk_at dksX1_reach_4 10 rfl rfl)
theorem dX1_reach_104 : decode cX1_reach 104 = .ok (.iaload, 1) := dk_46 (dk_at dksX1_reach_4 11 rfl rfl)
theorem dX1_reach_105 : decode cX1_reach 105 = .ok (.bipush 100, 2) := dk_16 100 (dk_at dksX1_reach_4 12 rfl rfl)
theorem dX1_reach_107 : decode cX1_reach 107 = .ok (.irem, 1) := dk_112 (dk_at dksX1_reach_4 14 rfl rfl)
theorem dX1_reach_108 : decode cX1_reach 108 = .ok (.istore 4, 2) := dk_54 4 (dk_at dksX1_reach_4 15 rfl rfl)
theorem dX1_reach_110 : decode cX1_reach 110 = .ok (.iload_n 2, 1) := dk_28 (dk_at dksX1_reach_4 17 rfl rfl)
theorem dX1_reach_111 : decode cX1_reach 111 = .ok (.aload_n 0, 1) := dk_42 (dk_at dksX1_reach_4 18 rfl rfl)
theorem dX1_reach_112 : decode cX1_reach 112 = .ok (.getfield 169, 3) := dk_180 0 169 (dk_at dksX1_reach_4 19 rfl rfl)
theorem dX1_reach_115 : decode cX1_reach 115 = .ok (.iload 4, 2) := dk_21 4 (dk_at dksX1_reach_4 22 rfl rfl)
theorem dX1_reach_117 : decode cX1_reach 117 = .ok (.baload, 1) := dk_51 (dk_at dksX1_reach_5 0 rfl rfl)
theorem dX1_reach_118 : decode cX1_reach 118 = .ok (.ifCond .eq 7, 3) := dk_153 0 7 (dk_at dksX1_reach_5 1 rfl rfl)
theorem dX1_reach_121 : decode cX1_reach 121 = .ok (.iconst 0, 1) := dk_3 (dk_at dksX1_reach_5 4 rfl rfl)
theorem dX1_reach_122 : decode cX1_reach 122 = .ok (.goto 4, 3) := dk_167 0 4 (dk_at dksX1_reach_5 5 rfl rfl)
theorem dX1_reach_125 : decode cX1_reach 125 = .ok (.iconst 1, 1) := dk_4 (dk_at dksX1_reach_5 8 rfl rfl)
theorem dX1_reach_126 : decode cX1_reach 126 = .ok (.iadd, 1) := dk_96 (dk_at dksX1_reach_5 9 rfl rfl)
theorem dX1_reach_127 : decode cX1_reach 127 = .ok (.istore_n 2, 1) := dk_61 (dk_at dksX1_reach_5 10 rfl rfl)
theorem dX1_reach_128 : decode cX1_reach 128 = .ok (.aload_n 0, 1) := dk_42 (dk_at dksX1_reach_5 11 rfl rfl)
theorem dX1_reach_129 : decode cX1_reach 129 = .ok (.getfield 169, 3) := dk_180 0 169 (dk_at dksX1_reach_5 12 rfl rfl)
theorem dX1_reach_132 : decode cX1_reach 132 = .ok (.iload 4, 2) := dk_21 4 (dk_at dksX1_reach_5 15 rfl rfl)
theorem dX1_reach_134 : decode cX1_reach 134 = .ok (.iconst 1, 1) := dk_4 (dk_at dksX1_reach_5 17 rfl rfl)
theorem dX1_reach_135 : decode cX1_reach 135 = .ok (.bastore, 1) := dk_84 (dk_at dksX1_reach_5 18 rfl rfl)
theorem dX1_reach_136 : decode cX1_reach 136 = .ok (.iinc 3 1, 3) := dk_132 3 1 (dk_at dksX1_reach_5 19 rfl rfl)
theorem dX1_reach_139 : decode cX1_reach 139 = .ok (.goto (-48), 3) := dk_167 255 208 (dk_at dksX1_reach_6 0 rfl rfl)
theorem dX1_reach_142 : decode cX1_reach 142 = .ok (.iload_n 2, 1) := dk_28 (dk_at dksX1_reach_6 3 rfl rfl)
theorem dX1_reach_143 : decode cX1_reach 143 = .ok (.ireturn, 1) := dk_172 (dk_at dksX1_reach_6 4 rfl rfl)
theorem dn_X1_reach : yX1_reach.cls ≠ "java/lang/invoke/MethodHandle" ∧ yX1_reach.cls ≠ "java/lang/invoke/VarHandle" ∧ (parseMethodDescriptor yX1_reach.desc).map (fun d => d.parameters.length) = some 1 := by decide +kernel
noncomputable def M_X1_reach (t : Nat) (p1 : Int32) : Mo Int32 := Mo.bind (chk [0] t) (fun _ => Mo.bind (M_X1_isIn p1 0 1) (fun v1 => cond v1 (Mo.bind (gR [0] t 9) (fun v2 => Mo.bind (gI [2] v2 3) (fun v3 => if v3 = (-1) then Mo.pure (-1) else if p1 = 1 then Mo.bind (gR [0] t 9) (fun v28 => Mo.bind (gR [2] v28 0) (fun v29 => Mo.bind (gI [3] v29 6) (fun v30 => if v30 ≤ 5 then Mo.bind (Mo.loop (S := Int32) (E := Unit) (fun s31 => if 100 ≤ s31 then Mo.pure (Sum.inr ()) else Mo.bind (gR [0] t 40) (fun v35 => Mo.bind (astI 3 v35 s31 0) (fun _ => Mo.lv (s31 + 1) (fun v36 => Mo.pure (Sum.inl v36))))) 0) (fun e34 => if p1 = 0 then Mo.bind (gR [0] t 9) (fun v52 => Mo.bind (gI [2] v52 3) (fun v53 => Mo.bind (M_X1_spread 102 t v53) (fun v54 => Mo.pure v54))) else Mo.bind (M_X1_rings t (-1)) (fun v37 => Mo.bind (Mo.loop (S := Int32 × Int32) (E := Int32) (fun s38 => Mo.bind (gI [0] t 38) (fun v42 => if v42 ≤ s38.2 then Mo.pure (Sum.inr s38.1) else Mo.bind (gR [0] t 36) (fun v43 => Mo.bind (aldI 0 v43 s38.2) (fun v44 => Mo.lv (v44 - v44 / 100 * 100) (fun v45 => Mo.bind (gR [0] t 40) (fun v46 => Mo.bind (aldI 3 v46 v45) (fun v47 => Mo.bind ((if v47 = 0 then Mo.pure true else Mo.pure false : Mo (Bool))) (fun u48 => Mo.lv (s38.1 + (b2i u48)) (fun v49 => Mo.bind (gR [0] t 40) (fun v50 => Mo.bind (astI 3 v50 v45 1) (fun _ => Mo.lv (s38.2 + 1) (fun v51 => Mo.pure (Sum.inl (v49, v51)))))))))))))) (0, 0)) (fun e41 => Mo.pure e41))) else Mo.pure (-2)))) else Mo.bind (Mo.loop (S := Int32) (E := Unit) (fun s4 => if 100 ≤ s4 then Mo.pure (Sum.inr ()) else Mo.bind (gR [0] t 40) (fun v8 => Mo.bind (astI 3 v8 s4 0) (fun _ => Mo.lv (s4 + 1) (fun v9 => Mo.pure (Sum.inl v9))))) 0) (fun e7 => if p1 = 0 then Mo.bind (gR [0] t 9) (fun v25 => Mo.bind (gI [2] v25 3) (fun v26 => Mo.bind (M_X1_spread 102 t v26) (fun v27 => Mo.pure v27))) else Mo.bind (M_X1_rings t (-1)) (fun v10 => Mo.bind (Mo.loop (S := Int32 × Int32) (E := Int32) (fun s11 => Mo.bind (gI [0] t 38) (fun v15 => if v15 ≤ s11.2 then Mo.pure (Sum.inr s11.1) else Mo.bind (gR [0] t 36) (fun v16 => Mo.bind (aldI 0 v16 s11.2) (fun v17 => Mo.lv (v17 - v17 / 100 * 100) (fun v18 => Mo.bind (gR [0] t 40) (fun v19 => Mo.bind (aldI 3 v19 v18) (fun v20 => Mo.bind ((if v20 = 0 then Mo.pure true else Mo.pure false : Mo (Bool))) (fun u21 => Mo.lv (s11.1 + (b2i u21)) (fun v22 => Mo.bind (gR [0] t 40) (fun v23 => Mo.bind (astI 3 v23 v18 1) (fun _ => Mo.lv (s11.2 + 1) (fun v24 => Mo.pure (Sum.inl (v22, v24)))))))))))))) (0, 0)) (fun e14 => Mo.pure e14)))))) (Mo.pure (-1))))
set_option maxHeartbeats 4000000 in
theorem ct_X1_reach (G : gG) (t : Nat) (p1 : Int32) : gCt G yX1_reach cX1_reach 5 (some .int) 106 2641 [.ref t, .int p1] (M_X1_reach t p1) (fun x : Int32 => some (.int x)) := by
  refine gCt.of (by decide) (Nat.le_of_ble_eq_true rfl) (fun K r hG X hd ho => ?_)
  subst hG
  have X : gX K cX1_reach 5 "BitingDoors" "reach" (some .int) 106 2641 := X
  have hle : gLe (kh1 K) (kh1 K) := gLe.rf
  show V K 5 (kh0 K) 0 [(0, .ref t), (1, .int p1)] []
  generalize kh0 K = h at hd ⊢
  unfold M_X1_reach at hd
  obtain ⟨-, hd⟩ := chk_some hd
  refine v_iload_n X dX1_reach_0 1 1 rfl rfl ?_
  refine v_iconst (v := 0) X dX1_reach_1 (by decide) ?_
  refine v_iconst (v := 1) X dX1_reach_2 (by decide) ?_
  refine v_callS X hd hle (ct_X1_isIn _ p1 0 1) (lw_S q1119 q688 q109 q689) dn_X1_isIn rfl ⟨by decide, by decide⟩ rfl (Nat.le_of_ble_eq_true rfl) dX1_reach_3 (fun v1 h hd => ?_)
  show V K 5 h 6 [(0, .ref t), (1, .int p1)] [.int (b2i v1)]
  refine v_ifZ_eq (tgt := 20) X dX1_reach_6 (by decide) (fun q => ?_) (fun q => ?_)
  · have hd := cnd_f q hd
    refine v_iconst (v := (-1)) X dX1_reach_20 (by decide) ?_
    exact v_iret X hd ho dX1_reach_21
  · have hd := cnd_t q hd
    refine v_aload_n X dX1_reach_9 0 0 rfl rfl ?_
    refine v_getR X hd fl_X1_90 dX1_reach_10 (fun v2 hd => ?_)
    refine v_getI X hd fl_X1_418 dX1_reach_13 (fun v3 hd => ?_)
    refine v_iconst (v := (-1)) X dX1_reach_16 (by decide) ?_
    refine v_icmp_ne (tgt := 22) X dX1_reach_17 (by decide) (fun q => ?_) (fun q => ?_)
    · have hd := ite_f q hd
      refine v_iload_n X dX1_reach_22 1 1 rfl rfl ?_
      refine v_iconst (v := 1) X dX1_reach_23 (by decide) ?_
      refine v_icmp_ne (tgt := 44) X dX1_reach_24 (by decide) (fun q => ?_) (fun q => ?_)
      · have hd := ite_f q hd
        refine v_iconst (v := 0) X dX1_reach_44 (by decide) ?_
        refine v_istore_n (lv2 := [(2, .int 0), (0, .ref t), (1, .int p1)]) X dX1_reach_45 2 rfl (by decide) rfl ?_
        obtain ⟨e7, h1, hd, hd2⟩ := Mo.bind_some hd
        have KX : V K 5 h1 65 [(0, .ref t), (1, .int p1)] [] := by
          clear hd
          have hd := hd2
          refine v_iload_n X dX1_reach_65 1 1 rfl rfl ?_
          refine v_if_ne (tgt := 81) X dX1_reach_66 (by decide) (fun q => ?_) (fun q => ?_)
          · have hd := ite_f q hd
            refine v_aload_n X dX1_reach_81 0 0 rfl rfl ?_
            refine v_iconst (v := (-1)) X dX1_reach_82 (by decide) ?_
            refine v_callV X hd hle (ct_X1_rings _ t (-1)) gCl_X1 (lw_V q1395 q1397 qs27 q109 q1398) ⟨rfl, dn_X1_rings⟩ rfl ⟨by decide, by decide⟩ rfl (Nat.le_of_ble_eq_true rfl) dX1_reach_83 (fun v10 h hd => ?_)
            show V K 5 h 86 [(0, .ref t), (1, .int p1)] [.int v10]
            refine v_pop X dX1_reach_86 rfl ?_
            refine v_iconst (v := 0) X dX1_reach_87 (by decide) ?_
            refine v_istore_n (lv2 := [(2, .int 0), (0, .ref t), (1, .int p1)]) X dX1_reach_88 2 rfl (by decide) rfl ?_
            refine v_iconst (v := 0) X dX1_reach_89 (by decide) ?_
            refine v_istore_n (lv2 := [(3, .int 0), (2, .int 0), (0, .ref t), (1, .int p1)]) X dX1_reach_90 3 rfl (by decide) rfl ?_
            obtain ⟨e14, h1, hd, hd2⟩ := Mo.bind_some hd
            have KX : V K 5 h1 142 [(2, .int e14)] [] := by
              clear hd
              have hd := hd2
              refine v_iload_n X dX1_reach_142 0 2 rfl rfl ?_
              exact v_iret X hd ho dX1_reach_143
            have hle := (Mo.le hd2).tr hle
            clear hd2
            refine v_loc [2, 1, 0] rfl ?_
            refine loop_ind hd (fun (s11 : Int32 × Int32) h => V K 5 h 91 [(0, .ref t), (2, .int s11.1), (3, .int s11.2)] []) (fun s11 h x h2 hd hle0 ih12 ho13 => ?_)
            have hle := hle0.tr hle
            refine v_iload_n X dX1_reach_91 2 3 rfl rfl ?_
            refine v_aload_n X dX1_reach_92 0 0 rfl rfl ?_
            refine v_getI X hd fl_X1_446 dX1_reach_93 (fun v15 hd => ?_)
            refine v_icmp_ge (tgt := 142) X dX1_reach_96 (by decide) (fun q => ?_) (fun q => ?_)
            · have hd := ite_t q hd
              exact v_loc [1] rfl (v_at (P := fun (e14 : Int32) h => V K 5 h 142 [(2, .int e14)] []) (lp_out hd ho13) KX)
            · have hd := ite_f q hd
              refine v_aload_n X dX1_reach_99 0 0 rfl rfl ?_
              refine v_getR X hd fl_X1_163 dX1_reach_100 (fun v16 hd => ?_)
              refine v_iload_n X dX1_reach_103 2 3 rfl rfl ?_
              refine v_iald X hd dX1_reach_104 (fun v17 hd => ?_)
              refine v_bipush (v := 100) X dX1_reach_105 (by decide) ?_
              refine v_irem X dX1_reach_107 (by decide) ?_
              refine v_lvI hd (fun v18 hd => ?_)
              refine v_istore (lv2 := [(4, .int v18), (0, .ref t), (2, .int s11.1), (3, .int s11.2)]) X dX1_reach_108 (by decide) rfl ?_
              refine v_iload_n X dX1_reach_110 2 2 rfl rfl ?_
              refine v_aload_n X dX1_reach_111 1 0 rfl rfl ?_
              refine v_getR X hd fl_X1_169 dX1_reach_112 (fun v19 hd => ?_)
              refine v_iload X dX1_reach_115 0 rfl ?_
              refine v_zald X hd dX1_reach_117 (fun v20 hd => ?_)
              obtain ⟨u21, h1, hd, hd2⟩ := Mo.bind_some hd
              have KJ : V K 5 h1 126 [(0, .ref t), (3, .int s11.2), (4, .int v18)] [.int (b2i u21), .int s11.1] := by
                clear hd
                have hd := hd2
                refine v_iadd X dX1_reach_126 ?_
                refine v_lvI hd (fun v22 hd => ?_)
                refine v_istore_n (lv2 := [(2, .int v22), (0, .ref t), (3, .int s11.2), (4, .int v18)]) X dX1_reach_127 2 rfl (by decide) rfl ?_
                refine v_aload_n X dX1_reach_128 1 0 rfl rfl ?_
                refine v_getR X hd fl_X1_169 dX1_reach_129 (fun v23 hd => ?_)
                refine v_iload X dX1_reach_132 3 rfl ?_
                refine v_iconst (v := 1) X dX1_reach_134 (by decide) ?_
                refine v_zast X hd rfl dX1_reach_135 (fun h hd => ?_)
                refine v_iincL (lv2 := fun v24 => [(3, .int v24), (2, .int v22), (0, .ref t), (4, .int v18)]) X hd dX1_reach_136 2 rfl (by decide : Int32.ofInt 1 = 1) (by decide) (fun v24 => rfl) (fun v24 hd => ?_)
                refine v_goto (tgt := 91) X dX1_reach_139 (by decide) ?_
                exact v_loc [2, 1, 0] rfl (lp_in (P := fun (s11 : Int32 × Int32) h => V K 5 h 91 [(0, .ref t), (2, .int s11.1), (3, .int s11.2)] []) hd ih12)
              have hle := (Mo.le hd2).tr hle
              clear hd2
              refine v_if_eq (tgt := 125) X dX1_reach_118 (by decide) (fun q => ?_) (fun q => ?_)
              · have hd := ite_t q hd
                refine v_iconst (v := 1) X dX1_reach_125 (by decide) ?_
                exact v_loc [1, 3, 0] rfl (v_at (P := fun (u21 : Bool) h => V K 5 h 126 [(0, .ref t), (3, .int s11.2), (4, .int v18)] [.int (b2i u21), .int s11.1]) hd KJ)
              · have hd := ite_f q hd
                refine v_iconst (v := 0) X dX1_reach_121 (by decide) ?_
                refine v_goto (tgt := 126) X dX1_reach_122 (by decide) ?_
                exact v_loc [1, 3, 0] rfl (v_at (P := fun (u21 : Bool) h => V K 5 h 126 [(0, .ref t), (3, .int s11.2), (4, .int v18)] [.int (b2i u21), .int s11.1]) hd KJ)
          · have hd := ite_t q hd
            refine v_aload_n X dX1_reach_69 0 0 rfl rfl ?_
            refine v_aload_n X dX1_reach_70 0 0 rfl rfl ?_
            refine v_getR X hd fl_X1_90 dX1_reach_71 (fun v25 hd => ?_)
            refine v_getI X hd fl_X1_418 dX1_reach_74 (fun v26 hd => ?_)
            refine v_callV X hd hle (ct_X1_spread _ 102 t v26) gCl_X1 (lw_V q1418 q1420 qs29 q109 q1421) ⟨rfl, dn_X1_spread⟩ rfl ⟨by decide, by decide⟩ rfl (Nat.le_of_ble_eq_true rfl) dX1_reach_77 (fun v27 h hd => ?_)
            show V K 5 h 80 [(0, .ref t), (1, .int p1)] [.int v27]
            exact v_iret X hd ho dX1_reach_80
        have hle := (Mo.le hd2).tr hle
        clear hd2
        refine v_loc [1, 2, 0] rfl ?_
        refine loop_ind hd (fun (s4 : Int32) h => V K 5 h 46 [(0, .ref t), (1, .int p1), (2, .int s4)] []) (fun s4 h x h2 hd hle0 ih5 ho6 => ?_)
        have hle := hle0.tr hle
        refine v_iload_n X dX1_reach_46 2 2 rfl rfl ?_
        refine v_bipush (v := 100) X dX1_reach_47 (by decide) ?_
        refine v_icmp_ge (tgt := 65) X dX1_reach_49 (by decide) (fun q => ?_) (fun q => ?_)
        · have hd := ite_t q hd
          exact v_loc [0, 1] rfl (v_at (P := fun (e7 : Unit) h => V K 5 h 65 [(0, .ref t), (1, .int p1)] []) (lp_out hd ho6) KX)
        · have hd := ite_f q hd
          refine v_aload_n X dX1_reach_52 0 0 rfl rfl ?_
          refine v_getR X hd fl_X1_169 dX1_reach_53 (fun v8 hd => ?_)
          refine v_iload_n X dX1_reach_56 2 2 rfl rfl ?_
          refine v_iconst (v := 0) X dX1_reach_57 (by decide) ?_
          refine v_zast X hd rfl dX1_reach_58 (fun h hd => ?_)
          refine v_iincL (lv2 := fun v9 => [(2, .int v9), (0, .ref t), (1, .int p1)]) X hd dX1_reach_59 2 rfl (by decide : Int32.ofInt 1 = 1) (by decide) (fun v9 => rfl) (fun v9 hd => ?_)
          refine v_goto (tgt := 46) X dX1_reach_62 (by decide) ?_
          exact v_loc [1, 2, 0] rfl (lp_in (P := fun (s4 : Int32) h => V K 5 h 46 [(0, .ref t), (1, .int p1), (2, .int s4)] []) hd ih5)
      · have hd := ite_t q hd
        refine v_aload_n X dX1_reach_27 0 0 rfl rfl ?_
        refine v_getR X hd fl_X1_90 dX1_reach_28 (fun v28 hd => ?_)
        refine v_getR X hd fl_X1_243 dX1_reach_31 (fun v29 hd => ?_)
        refine v_getI X hd fl_X1_247 dX1_reach_34 (fun v30 hd => ?_)
        refine v_iconst (v := 5) X dX1_reach_37 (by decide) ?_
        refine v_icmp_le (tgt := 44) X dX1_reach_38 (by decide) (fun q => ?_) (fun q => ?_)
        · have hd := ite_t q hd
          refine v_iconst (v := 0) X dX1_reach_44 (by decide) ?_
          refine v_istore_n (lv2 := [(2, .int 0), (0, .ref t), (1, .int p1)]) X dX1_reach_45 2 rfl (by decide) rfl ?_
          obtain ⟨e34, h1, hd, hd2⟩ := Mo.bind_some hd
          have KX : V K 5 h1 65 [(0, .ref t), (1, .int p1)] [] := by
            clear hd
            have hd := hd2
            refine v_iload_n X dX1_reach_65 1 1 rfl rfl ?_
            refine v_if_ne (tgt := 81) X dX1_reach_66 (by decide) (fun q => ?_) (fun q => ?_)
            · have hd := ite_f q hd
              refine v_aload_n X dX1_reach_81 0 0 rfl rfl ?_
              refine v_iconst (v := (-1)) X dX1_reach_82 (by decide) ?_
              refine v_callV X hd hle (ct_X1_rings _ t (-1)) gCl_X1 (lw_V q1395 q1397 qs27 q109 q1398) ⟨rfl, dn_X1_rings⟩ rfl ⟨by decide, by decide⟩ rfl (Nat.le_of_ble_eq_true rfl) dX1_reach_83 (fun v37 h hd => ?_)
              show V K 5 h 86 [(0, .ref t), (1, .int p1)] [.int v37]
              refine v_pop X dX1_reach_86 rfl ?_
              refine v_iconst (v := 0) X dX1_reach_87 (by decide) ?_
              refine v_istore_n (lv2 := [(2, .int 0), (0, .ref t), (1, .int p1)]) X dX1_reach_88 2 rfl (by decide) rfl ?_
              refine v_iconst (v := 0) X dX1_reach_89 (by decide) ?_
              refine v_istore_n (lv2 := [(3, .int 0), (2, .int 0), (0, .ref t), (1, .int p1)]) X dX1_reach_90 3 rfl (by decide) rfl ?_
              obtain ⟨e41, h1, hd, hd2⟩ := Mo.bind_some hd
              have KX : V K 5 h1 142 [(2, .int e41)] [] := by
                clear hd
                have hd := hd2
                refine v_iload_n X dX1_reach_142 0 2 rfl rfl ?_
                exact v_iret X hd ho dX1_reach_143
              have hle := (Mo.le hd2).tr hle
              clear hd2
              refine v_loc [2, 1, 0] rfl ?_
              refine loop_ind hd (fun (s38 : Int32 × Int32) h => V K 5 h 91 [(0, .ref t), (2, .int s38.1), (3, .int s38.2)] []) (fun s38 h x h2 hd hle0 ih39 ho40 => ?_)
              have hle := hle0.tr hle
              refine v_iload_n X dX1_reach_91 2 3 rfl rfl ?_
              refine v_aload_n X dX1_reach_92 0 0 rfl rfl ?_
              refine v_getI X hd fl_X1_446 dX1_reach_93 (fun v42 hd => ?_)
              refine v_icmp_ge (tgt := 142) X dX1_reach_96 (by decide) (fun q => ?_) (fun q => ?_)
              · have hd := ite_t q hd
                exact v_loc [1] rfl (v_at (P := fun (e41 : Int32) h => V K 5 h 142 [(2, .int e41)] []) (lp_out hd ho40) KX)
              · have hd := ite_f q hd
                refine v_aload_n X dX1_reach_99 0 0 rfl rfl ?_
                refine v_getR X hd fl_X1_163 dX1_reach_100 (fun v43 hd => ?_)
                refine v_iload_n X dX1_reach_103 2 3 rfl rfl ?_
                refine v_iald X hd dX1_reach_104 (fun v44 hd => ?_)
                refine v_bipush (v := 100) X dX1_reach_105 (by decide) ?_
                refine v_irem X dX1_reach_107 (by decide) ?_
                refine v_lvI hd (fun v45 hd => ?_)
                refine v_istore (lv2 := [(4, .int v45), (0, .ref t), (2, .int s38.1), (3, .int s38.2)]) X dX1_reach_108 (by decide) rfl ?_
                refine v_iload_n X dX1_reach_110 2 2 rfl rfl ?_
                refine v_aload_n X dX1_reach_111 1 0 rfl rfl ?_
                refine v_getR X hd fl_X1_169 dX1_reach_112 (fun v46 hd => ?_)
                refine v_iload X dX1_reach_115 0 rfl ?_
                refine v_zald X hd dX1_reach_117 (fun v47 hd => ?_)
                obtain ⟨u48, h1, hd, hd2⟩ := Mo.bind_some hd
                have KJ : V K 5 h1 126 [(0, .ref t), (3, .int s38.2), (4, .int v45)] [.int (b2i u48), .int s38.1] := by
                  clear hd
                  have hd := hd2
                  refine v_iadd X dX1_reach_126 ?_
                  refine v_lvI hd (fun v49 hd => ?_)
                  refine v_istore_n (lv2 := [(2, .int v49), (0, .ref t), (3, .int s38.2), (4, .int v45)]) X dX1_reach_127 2 rfl (by decide) rfl ?_
                  refine v_aload_n X dX1_reach_128 1 0 rfl rfl ?_
                  refine v_getR X hd fl_X1_169 dX1_reach_129 (fun v50 hd => ?_)
                  refine v_iload X dX1_reach_132 3 rfl ?_
                  refine v_iconst (v := 1) X dX1_reach_134 (by decide) ?_
                  refine v_zast X hd rfl dX1_reach_135 (fun h hd => ?_)
                  refine v_iincL (lv2 := fun v51 => [(3, .int v51), (2, .int v49), (0, .ref t), (4, .int v45)]) X hd dX1_reach_136 2 rfl (by decide : Int32.ofInt 1 = 1) (by decide) (fun v51 => rfl) (fun v51 hd => ?_)
                  refine v_goto (tgt := 91) X dX1_reach_139 (by decide) ?_
                  exact v_loc [2, 1, 0] rfl (lp_in (P := fun (s38 : Int32 × Int32) h => V K 5 h 91 [(0, .ref t), (2, .int s38.1), (3, .int s38.2)] []) hd ih39)
                have hle := (Mo.le hd2).tr hle
                clear hd2
                refine v_if_eq (tgt := 125) X dX1_reach_118 (by decide) (fun q => ?_) (fun q => ?_)
                · have hd := ite_t q hd
                  refine v_iconst (v := 1) X dX1_reach_125 (by decide) ?_
                  exact v_loc [1, 3, 0] rfl (v_at (P := fun (u48 : Bool) h => V K 5 h 126 [(0, .ref t), (3, .int s38.2), (4, .int v45)] [.int (b2i u48), .int s38.1]) hd KJ)
                · have hd := ite_f q hd
                  refine v_iconst (v := 0) X dX1_reach_121 (by decide) ?_
                  refine v_goto (tgt := 126) X dX1_reach_122 (by decide) ?_
                  exact v_loc [1, 3, 0] rfl (v_at (P := fun (u48 : Bool) h => V K 5 h 126 [(0, .ref t), (3, .int s38.2), (4, .int v45)] [.int (b2i u48), .int s38.1]) hd KJ)
            · have hd := ite_t q hd
              refine v_aload_n X dX1_reach_69 0 0 rfl rfl ?_
              refine v_aload_n X dX1_reach_70 0 0 rfl rfl ?_
              refine v_getR X hd fl_X1_90 dX1_reach_71 (fun v52 hd => ?_)
              refine v_getI X hd fl_X1_418 dX1_reach_74 (fun v53 hd => ?_)
              refine v_callV X hd hle (ct_X1_spread _ 102 t v53) gCl_X1 (lw_V q1418 q1420 qs29 q109 q1421) ⟨rfl, dn_X1_spread⟩ rfl ⟨by decide, by decide⟩ rfl (Nat.le_of_ble_eq_true rfl) dX1_reach_77 (fun v54 h hd => ?_)
              show V K 5 h 80 [(0, .ref t), (1, .int p1)] [.int v54]
              exact v_iret X hd ho dX1_reach_80
          have hle := (Mo.le hd2).tr hle
          clear hd2
          refine v_loc [1, 2, 0] rfl ?_
          refine loop_ind hd (fun (s31 : Int32) h => V K 5 h 46 [(0, .ref t), (1, .int p1), (2, .int s31)] []) (fun s31 h x h2 hd hle0 ih32 ho33 => ?_)
          have hle := hle0.tr hle
          refine v_iload_n X dX1_reach_46 2 2 rfl rfl ?_
          refine v_bipush (v := 100) X dX1_reach_47 (by decide) ?_
          refine v_icmp_ge (tgt := 65) X dX1_reach_49 (by decide) (fun q => ?_) (fun q => ?_)
          · have hd := ite_t q hd
            exact v_loc [0, 1] rfl (v_at (P := fun (e34 : Unit) h => V K 5 h 65 [(0, .ref t), (1, .int p1)] []) (lp_out hd ho33) KX)
          · have hd := ite_f q hd
            refine v_aload_n X dX1_reach_52 0 0 rfl rfl ?_
            refine v_getR X hd fl_X1_169 dX1_reach_53 (fun v35 hd => ?_)
            refine v_iload_n X dX1_reach_56 2 2 rfl rfl ?_
            refine v_iconst (v := 0) X dX1_reach_57 (by decide) ?_
            refine v_zast X hd rfl dX1_reach_58 (fun h hd => ?_)
            refine v_iincL (lv2 := fun v36 => [(2, .int v36), (0, .ref t), (1, .int p1)]) X hd dX1_reach_59 2 rfl (by decide : Int32.ofInt 1 = 1) (by decide) (fun v36 => rfl) (fun v36 hd => ?_)
            refine v_goto (tgt := 46) X dX1_reach_62 (by decide) ?_
            exact v_loc [1, 2, 0] rfl (lp_in (P := fun (s31 : Int32) h => V K 5 h 46 [(0, .ref t), (1, .int p1), (2, .int s31)] []) hd ih32)
        · have hd := ite_f q hd
          refine v_bipush (v := (-2)) X dX1_reach_41 (by decide) ?_
          exact v_iret X hd ho dX1_reach_43
    · have hd := ite_t q hd
      refine v_iconst (v := (-1)) X dX1_reach_20 (by decide) ?_
      exact v_iret X hd ho dX1_reach_21
def dkwX1_ways_2_3 : List UInt8 := [132, 2, 1, 167, 255, 208, 177]
abbrev dktX1_ways_2_3 : List UInt8 := dkwX1_ways_2_3 ++ []
def dkwX1_ways_2_2 : List UInt8 := [2, 182, 1, 95, 153, 0, 6, 167, 0, 17, 42, 180, 0, 124, 27, 28, 79, 42, 27, 4, 96, 182, 1, 112]
abbrev dktX1_ways_2_2 : List UInt8 := dkwX1_ways_2_2 ++ dktX1_ways_2_3
def dkwX1_ways_2_1 : List UInt8 := [177, 3, 61, 28, 7, 162, 0, 49, 42, 180, 0, 120, 27, 46, 28, 184, 1, 73, 153, 0, 30, 42, 27, 28]
abbrev dktX1_ways_2_1 : List UInt8 := dkwX1_ways_2_1 ++ dktX1_ways_2_2
def dkwX1_ways_2_0 : List UInt8 := [27, 42, 180, 0, 90, 180, 0, 243, 180, 0, 247, 160, 0, 14, 42, 89, 180, 1, 109, 4, 96, 181, 1, 109]
abbrev dktX1_ways_2_0 : List UInt8 := dkwX1_ways_2_0 ++ dktX1_ways_2_1
theorem dksX1_ways_2_0 : cX1_ways_2.data.toList.drop 0 = dktX1_ways_2_0 := by decide +kernel
theorem dksX1_ways_2_1 : cX1_ways_2.data.toList.drop 24 = dktX1_ways_2_1 := dk_seg dksX1_ways_2_0 24 rfl rfl
theorem dksX1_ways_2_2 : cX1_ways_2.data.toList.drop 48 = dktX1_ways_2_2 := dk_seg dksX1_ways_2_1 24 rfl rfl
theorem dksX1_ways_2_3 : cX1_ways_2.data.toList.drop 72 = dktX1_ways_2_3 := dk_seg dksX1_ways_2_2 24 rfl rfl
theorem dX1_ways_2_0 : decode cX1_ways_2 0 = .ok (.iload_n 1, 1) := dk_27 (dk_at dksX1_ways_2_0 0 rfl rfl)
theorem dX1_ways_2_1 : decode cX1_ways_2 1 = .ok (.aload_n 0, 1) := dk_42 (dk_at dksX1_ways_2_0 1 rfl rfl)
theorem dX1_ways_2_2 : decode cX1_ways_2 2 = .ok (.getfield 90, 3) := dk_180 0 90 (dk_at dksX1_ways_2_0 2 rfl rfl)
theorem dX1_ways_2_5 : decode cX1_ways_2 5 = .ok (.getfield 243, 3) := dk_180 0 243 (dk_at dksX1_ways_2_0 5 rfl rfl)
theorem dX1_ways_2_8 : decode cX1_ways_2 8 = .ok (.getfield 247, 3) := dk_180 0 247 (dk_at dksX1_ways_2_0 8 rfl rfl)
theorem dX1_ways_2_11 : decode cX1_ways_2 11 = .ok (.if_icmp .ne 14, 3) := dk_160 0 14 (dk_at dksX1_ways_2_0 11 rfl rfl)
theorem dX1_ways_2_14 : decode cX1_ways_2 14 = .ok (.aload_n 0, 1) := dk_42 (dk_at dksX1_ways_2_0 14 rfl rfl)
theorem dX1_ways_2_15 : decode cX1_ways_2 15 = .ok (.dup, 1) := dk_89 (dk_at dksX1_ways_2_0 15 rfl rfl)
theorem dX1_ways_2_16 : decode cX1_ways_2 16 = .ok (.getfield 365, 3) := dk_180 1 109 (dk_at dksX1_ways_2_0 16 rfl rfl)
theorem dX1_ways_2_19 : decode cX1_ways_2 19 = .ok (.iconst 1, 1) := dk_4 (dk_at dksX1_ways_2_0 19 rfl rfl)
theorem dX1_ways_2_20 : decode cX1_ways_2 20 = .ok (.iadd, 1) := dk_96 (dk_at dksX1_ways_2_0 20 rfl rfl)
theorem dX1_ways_2_21 : decode cX1_ways_2 21 = .ok (.putfield 365, 3) := dk_181 1 109 (dk_at dksX1_ways_2_0 21 rfl rfl)
theorem dX1_ways_2_24 : decode cX1_ways_2 24 = .ok (.return_, 1) := dk_177 (dk_at dksX1_ways_2_1 0 rfl rfl)
theorem dX1_ways_2_25 : decode cX1_ways_2 25 = .ok (.iconst 0, 1) := dk_3 (dk_at dksX1_ways_2_1 1 rfl rfl)
theorem dX1_ways_2_26 : decode cX1_ways_2 26 = .ok (.istore_n 2, 1) := dk_61 (dk_at dksX1_ways_2_1 2 rfl rfl)
theorem dX1_ways_2_27 : decode cX1_ways_2 27 = .ok (.iload_n 2, 1) := dk_28 (dk_at dksX1_ways_2_1 3 rfl rfl)
theorem dX1_ways_2_28 : decode cX1_ways_2 28 = .ok (.iconst 4, 1) := dk_7 (dk_at dksX1_ways_2_1 4 rfl rfl)
theorem dX1_ways_2_29 : decode cX1_ways_2 29 = .ok (.if_icmp .ge 49, 3) := dk_162 0 49 (dk_at dksX1_ways_2_1 5 rfl rfl)
theorem dX1_ways_2_32 : decode cX1_ways_2 32 = .ok (.aload_n 0, 1) := dk_42 (dk_at dksX1_ways_2_1 8 rfl rfl)
theorem dX1_ways_2_33 : decode cX1_ways_2 33 = .ok (.getfield 120, 3) := dk_180 0 120 (dk_at dksX1_ways_2_1 9 rfl rfl)
theorem dX1_ways_2_36 : decode cX1_ways_2 36 = .ok (.iload_n 1, 1) := dk_27 (dk_at dksX1_ways_2_1 12 rfl rfl)
theorem dX1_ways_2_37 : decode cX1_ways_2 37 = .ok (.iaload, 1) := dk_46 (dk_at dksX1_ways_2_1 13 rfl rfl)
theorem dX1_ways_2_38 : decode cX1_ways_2 38 = .ok (.iload_n 2, 1) := dk_28 (dk_at dksX1_ways_2_1 14 rfl rfl)
theorem dX1_ways_2_39 : decode cX1_ways_2 39 = .ok (.invokestatic 329, 3) := dk_184 1 73 (dk_at dksX1_ways_2_1 15 rfl rfl)
theorem dX1_ways_2_42 : decode cX1_ways_2 42 = .ok (.ifCond .eq 30, 3) := dk_153 0 30 (dk_at dksX1_ways_2_1 18 rfl rfl)
theorem dX1_ways_2_45 : decode cX1_ways_2 45 = .ok (.aload_n 0, 1) := dk_42 (dk_at dksX1_ways_2_1 21 rfl rfl)
theorem dX1_ways_2_46 : decode cX1_ways_2 46 = .ok (.iload_n 1, 1) := dk_27 (dk_at dksX1_ways_2_1 22 rfl rfl)
theorem dX1_ways_2_47 : decode cX1_ways_2 47 = .ok (.iload_n 2, 1) := dk_28 (dk_at dksX1_ways_2_1 23 rfl rfl)
theorem dX1_ways_2_48 : decode cX1_ways_2 48 = .ok (.iconst (-1), 1) := dk_2 (dk_at dksX1_ways_2_2 0 rfl rfl)
theorem dX1_ways_2_49 : decode cX1_ways_2 49 = .ok (.invokevirtual 351, 3) := dk_182 1 95 (dk_at dksX1_ways_2_2 1 rfl rfl)
theorem dX1_ways_2_52 : decode cX1_ways_2 52 = .ok (.ifCond .eq 6, 3) := dk_153 0 6 (dk_at dksX1_ways_2_2 4 rfl rfl)
theorem dX1_ways_2_55 : decode cX1_ways_2 55 = .ok (.goto 17, 3) := dk_167 0 17 (dk_at dksX1_ways_2_2 7 rfl rfl)
theorem dX1_ways_2_58 : decode cX1_ways_2 58 = .ok (.aload_n 0, 1) := dk_42 (dk_at dksX1_ways_2_2 10 rfl rfl)
theorem dX1_ways_2_59 : decode cX1_ways_2 59 = .ok (.getfield 124, 3) := dk_180 0 124 (dk_at dksX1_ways_2_2 11 rfl rfl)
theorem dX1_ways_2_62 : decode cX1_ways_2 62 = .ok (.iload_n 1, 1) := dk_27 (dk_at dksX1_ways_2_2 14 rfl rfl)
theorem dX1_ways_2_63 : decode cX1_ways_2 63 = .ok (.iload_n 2, 1) := dk_28 (dk_at dksX1_ways_2_2 15 rfl rfl)
theorem dX1_ways_2_64 : decode cX1_ways_2 64 = .ok (.iastore, 1) := dk_79 (dk_at dksX1_ways_2_2 16 rfl rfl)
theorem dX1_ways_2_65 : decode cX1_ways_2 65 = .ok (.aload_n 0, 1) := dk_42 (dk_at dksX1_ways_2_2 17 rfl rfl)
theorem dX1_ways_2_66 : decode cX1_ways_2 66 = .ok (.iload_n 1, 1) := dk_27 (dk_at dksX1_ways_2_2 18 rfl rfl)
theorem dX1_ways_2_67 : decode cX1_ways_2 67 = .ok (.iconst 1, 1) := dk_4 (dk_at dksX1_ways_2_2 19 rfl rfl)
theorem dX1_ways_2_68 : decode cX1_ways_2 68 = .ok (.iadd, 1) := dk_96 (dk_at dksX1_ways_2_2 20 rfl rfl)
theorem dX1_ways_2_69 : decode cX1_ways_2 69 = .ok (.invokevirtual 368, 3) := dk_182 1 112 (dk_at dksX1_ways_2_2 21 rfl rfl)
theorem dX1_ways_2_72 : decode cX1_ways_2 72 = .ok (.iinc 2 1, 3) := dk_132 2 1 (dk_at dksX1_ways_2_3 0 rfl rfl)
theorem dX1_ways_2_75 : decode cX1_ways_2 75 = .ok (.goto (-48), 3) := dk_167 255 208 (dk_at dksX1_ways_2_3 3 rfl rfl)
theorem dX1_ways_2_78 : decode cX1_ways_2 78 = .ok (.return_, 1) := dk_177 (dk_at dksX1_ways_2_3 6 rfl rfl)
theorem fl_X1_365 : gFl "BitingDoors" 365 [0] 20 := by
  intro args s hts hN ci hc
  simp only [List.mem_cons, List.not_mem_nil, or_false] at hc
  subst hc
  exact ⟨RX1, TX1, 46, "BitingDoors", gCl_X1, in_X1, by decide, Or.inl (hts _ q521), fun _ h => h⟩
theorem fp_X1_365 {nm : String} : gFp "BitingDoors" nm 365 [0] 20 .int := by
  intro args s hts hN ci hc
  simp only [List.mem_cons, List.not_mem_nil, or_false] at hc
  subst hc
  exact ⟨RX1, TX1, 46, "BitingDoors", gCl_X1, in_X1, by decide, Or.inl ⟨rfl, Or.inl (hts _ q521)⟩, fun _ h => h, rfl, fun D tys hK => gap_X1 hts hK⟩
theorem dn_X1_ways_2 : yX1_ways_2.cls ≠ "java/lang/invoke/MethodHandle" ∧ yX1_ways_2.cls ≠ "java/lang/invoke/VarHandle" ∧ (parseMethodDescriptor yX1_ways_2.desc).map (fun d => d.parameters.length) = some 1 := by decide +kernel
noncomputable def B_X1_ways_2 (Rc : Nat → Int32 → Mo Unit) (t : Nat) (p1 : Int32) : Mo Unit := Mo.bind (gR [0] t 9) (fun v1 => Mo.bind (gR [2] v1 0) (fun v2 => Mo.bind (gI [3] v2 6) (fun v3 => if p1 = v3 then Mo.bind (gI [0] t 20) (fun v16 => Mo.bind (pF [0] t 20 (.int (v16 + 1))) (fun _ => Mo.pure ())) else Mo.bind (Mo.loop (S := Int32) (E := Unit) (fun s4 => if 4 ≤ s4 then Mo.pure (Sum.inr ()) else Mo.bind (gR [0] t 15) (fun v8 => Mo.bind (aldI 0 v8 p1) (fun v9 => Mo.bind (M_X1_has v9 s4) (fun v10 => Mo.bind ((cond v10 (Mo.bind (M_X1_isBitten t p1 s4 (-1)) (fun v13 => cond v13 (Mo.pure ()) (Mo.bind (gR [0] t 16) (fun v14 => Mo.bind (astI 0 v14 p1 s4) (fun _ => Mo.bind (Rc t (p1 + 1)) (fun v15 => Mo.pure ())))))) (Mo.pure ()) : Mo (Unit))) (fun u11 => Mo.lv (s4 + 1) (fun v12 => Mo.pure (Sum.inl v12))))))) 0) (fun e7 => Mo.pure ()))))
noncomputable def N_X1_ways_2 : Nat → Nat → Int32 → Mo Unit
  | 0 => fun _ _ => Mo.fail
  | n + 1 => B_X1_ways_2 (fun t p1 => Mo.bind (chk [0] t) (fun _ => N_X1_ways_2 n t p1))
noncomputable def M_X1_ways_2 (n : Nat) (t : Nat) (p1 : Int32) : Mo Unit := Mo.bind (chk [0] t) (fun _ => N_X1_ways_2 n t p1)
set_option maxHeartbeats 4000000 in
theorem ct_X1_ways_2 (G : gG) (n : Nat) : ∀ (t : Nat) (p1 : Int32), gCt G yX1_ways_2 cX1_ways_2 3 none (2 + n) (47 + n * 22) [.ref t, .int p1] (M_X1_ways_2 n t p1) (fun _ : Unit => none) := by
  induction n with
  | zero =>
    intro t p1 l hfl h r h2 hf
    obtain ⟨-, hf⟩ := chk_some hf
    cases hf
  | succ n ih =>
    intro t p1
    refine gCt.of (by decide) (Nat.le_of_ble_eq_true rfl) (fun K r hG X hd ho => ?_)
    subst hG
    have X : gX K cX1_ways_2 3 "BitingDoors" "ways" none (2 + (n + 1)) (47 + (n + 1) * 22) := X
    have hle : gLe (kh1 K) (kh1 K) := gLe.rf
    show V K 3 (kh0 K) 0 [(0, .ref t), (1, .int p1)] []
    generalize kh0 K = h at hd ⊢
    obtain ⟨-, hd⟩ := chk_some hd
    have hd : (B_X1_ways_2 (M_X1_ways_2 n) t p1).1 h = some (r, kh1 K) := hd
    unfold B_X1_ways_2 at hd
    refine v_iload_n X dX1_ways_2_0 1 1 rfl rfl ?_
    refine v_aload_n X dX1_ways_2_1 0 0 rfl rfl ?_
    refine v_getR X hd fl_X1_90 dX1_ways_2_2 (fun v1 hd => ?_)
    refine v_getR X hd fl_X1_243 dX1_ways_2_5 (fun v2 hd => ?_)
    refine v_getI X hd fl_X1_247 dX1_ways_2_8 (fun v3 hd => ?_)
    refine v_icmp_ne (tgt := 25) X dX1_ways_2_11 (by decide) (fun q => ?_) (fun q => ?_)
    · have hd := ite_f q hd
      refine v_iconst (v := 0) X dX1_ways_2_25 (by decide) ?_
      refine v_istore_n (lv2 := [(2, .int 0), (0, .ref t), (1, .int p1)]) X dX1_ways_2_26 2 rfl (by decide) rfl ?_
      obtain ⟨e7, h1, hd, hd2⟩ := Mo.bind_some hd
      have KX : V K 3 h1 78 [] [] := by
        clear hd
        have hd := hd2
        exact v_vret X hd ho dX1_ways_2_78
      have hle := (Mo.le hd2).tr hle
      clear hd2
      refine v_loc [1, 2, 0] rfl ?_
      refine loop_ind hd (fun (s4 : Int32) h => V K 3 h 27 [(0, .ref t), (1, .int p1), (2, .int s4)] []) (fun s4 h x h2 hd hle0 ih5 ho6 => ?_)
      have hle := hle0.tr hle
      refine v_iload_n X dX1_ways_2_27 2 2 rfl rfl ?_
      refine v_iconst (v := 4) X dX1_ways_2_28 (by decide) ?_
      refine v_icmp_ge (tgt := 78) X dX1_ways_2_29 (by decide) (fun q => ?_) (fun q => ?_)
      · have hd := ite_t q hd
        exact v_loc [] rfl (v_at (P := fun (e7 : Unit) h => V K 3 h 78 [] []) (lp_out hd ho6) KX)
      · have hd := ite_f q hd
        refine v_aload_n X dX1_ways_2_32 0 0 rfl rfl ?_
        refine v_getR X hd fl_X1_120 dX1_ways_2_33 (fun v8 hd => ?_)
        refine v_iload_n X dX1_ways_2_36 1 1 rfl rfl ?_
        refine v_iald X hd dX1_ways_2_37 (fun v9 hd => ?_)
        refine v_iload_n X dX1_ways_2_38 2 2 rfl rfl ?_
        refine v_callS X hd hle (ct_X1_has _ v9 s4) (lw_S q1163 q899 q109 q900) dn_X1_has rfl ⟨by omega, by omega⟩ rfl (Nat.le_of_ble_eq_true rfl) dX1_ways_2_39 (fun v10 h hd => ?_)
        show V K 3 h 42 [(0, .ref t), (1, .int p1), (2, .int s4)] [.int (b2i v10)]
        obtain ⟨u11, h1, hd, hd2⟩ := Mo.bind_some hd
        have KJ : V K 3 h1 72 [(0, .ref t), (1, .int p1), (2, .int s4)] [] := by
          clear hd
          have hd := hd2
          refine v_iincL (lv2 := fun v12 => [(2, .int v12), (0, .ref t), (1, .int p1)]) X hd dX1_ways_2_72 2 rfl (by decide : Int32.ofInt 1 = 1) (by decide) (fun v12 => rfl) (fun v12 hd => ?_)
          refine v_goto (tgt := 27) X dX1_ways_2_75 (by decide) ?_
          exact v_loc [1, 2, 0] rfl (lp_in (P := fun (s4 : Int32) h => V K 3 h 27 [(0, .ref t), (1, .int p1), (2, .int s4)] []) hd ih5)
        have hle := (Mo.le hd2).tr hle
        clear hd2
        refine v_ifZ_eq (tgt := 72) X dX1_ways_2_42 (by decide) (fun q => ?_) (fun q => ?_)
        · have hd := cnd_f q hd
          exact v_loc [0, 1, 2] rfl (v_at (P := fun (u11 : Unit) h => V K 3 h 72 [(0, .ref t), (1, .int p1), (2, .int s4)] []) hd KJ)
        · have hd := cnd_t q hd
          refine v_aload_n X dX1_ways_2_45 0 0 rfl rfl ?_
          refine v_iload_n X dX1_ways_2_46 1 1 rfl rfl ?_
          refine v_iload_n X dX1_ways_2_47 2 2 rfl rfl ?_
          refine v_iconst (v := (-1)) X dX1_ways_2_48 (by decide) ?_
          refine v_callV X hd hle (ct_X1_isBitten _ t p1 s4 (-1)) gCl_X1 (lw_V q1190 q1192 qs18 q109 q1193) ⟨rfl, dn_X1_isBitten⟩ rfl ⟨by omega, by omega⟩ rfl (Nat.le_of_ble_eq_true rfl) dX1_ways_2_49 (fun v13 h hd => ?_)
          show V K 3 h 52 [(0, .ref t), (1, .int p1), (2, .int s4)] [.int (b2i v13)]
          refine v_ifZ_eq (tgt := 58) X dX1_ways_2_52 (by decide) (fun q => ?_) (fun q => ?_)
          · have hd := cnd_f q hd
            refine v_aload_n X dX1_ways_2_58 0 0 rfl rfl ?_
            refine v_getR X hd fl_X1_124 dX1_ways_2_59 (fun v14 hd => ?_)
            refine v_iload_n X dX1_ways_2_62 1 1 rfl rfl ?_
            refine v_iload_n X dX1_ways_2_63 2 2 rfl rfl ?_
            refine v_iast X hd dX1_ways_2_64 (fun h hd => ?_)
            refine v_aload_n X dX1_ways_2_65 0 0 rfl rfl ?_
            refine v_iload_n X dX1_ways_2_66 1 1 rfl rfl ?_
            refine v_iconst (v := 1) X dX1_ways_2_67 (by decide) ?_
            refine v_iadd X dX1_ways_2_68 ?_
            refine v_callV X hd hle (ih t (p1 + 1)) gCl_X1 (lw_V q1218 q1220 qs21 q109 q1221) ⟨rfl, dn_X1_ways_2⟩ rfl ⟨by omega, by omega⟩ rfl (Nat.le_of_ble_eq_true rfl) dX1_ways_2_69 (fun v15 h hd => ?_)
            show V K 3 h 72 [(0, .ref t), (1, .int p1), (2, .int s4)] []
            exact v_loc [0, 1, 2] rfl (v_at (P := fun (u11 : Unit) h => V K 3 h 72 [(0, .ref t), (1, .int p1), (2, .int s4)] []) hd KJ)
          · have hd := cnd_t q hd
            refine v_goto (tgt := 72) X dX1_ways_2_55 (by decide) ?_
            exact v_loc [0, 1, 2] rfl (v_at (P := fun (u11 : Unit) h => V K 3 h 72 [(0, .ref t), (1, .int p1), (2, .int s4)] []) hd KJ)
    · have hd := ite_t q hd
      refine v_aload_n X dX1_ways_2_14 0 0 rfl rfl ?_
      refine v_dup X dX1_ways_2_15 rfl ?_
      refine v_getI X hd fl_X1_365 dX1_ways_2_16 (fun v16 hd => ?_)
      refine v_iconst (v := 1) X dX1_ways_2_19 (by decide) ?_
      refine v_iadd X dX1_ways_2_20 ?_
      refine v_put (v := .int (v16 + 1)) X hd fp_X1_365 rfl rfl dX1_ways_2_21 (fun h hd => ?_)
      exact v_vret X hd ho dX1_ways_2_24
def dkwJ10_numberOfTrailingZeros_3 : List UInt8 := [5, 124, 59, 27, 26, 4, 124, 96, 172]
abbrev dktJ10_numberOfTrailingZeros_3 : List UInt8 := dkwJ10_numberOfTrailingZeros_3 ++ []
def dkwJ10_numberOfTrailingZeros_2 : List UInt8 := [124, 59, 26, 16, 16, 164, 0, 10, 132, 1, 4, 26, 7, 124, 59, 26, 7, 164, 0, 10, 132, 1, 2, 26]
abbrev dktJ10_numberOfTrailingZeros_2 : List UInt8 := dkwJ10_numberOfTrailingZeros_2 ++ dktJ10_numberOfTrailingZeros_3
def dkwJ10_numberOfTrailingZeros_1 : List UInt8 := [164, 0, 11, 132, 1, 16, 26, 16, 16, 124, 59, 26, 17, 1, 0, 164, 0, 11, 132, 1, 8, 26, 16, 8]
abbrev dktJ10_numberOfTrailingZeros_1 : List UInt8 := dkwJ10_numberOfTrailingZeros_1 ++ dktJ10_numberOfTrailingZeros_2
def dkwJ10_numberOfTrailingZeros_0 : List UInt8 := [26, 2, 130, 26, 4, 100, 126, 59, 26, 157, 0, 8, 26, 16, 32, 126, 172, 4, 60, 26, 19, 1, 8]
abbrev dktJ10_numberOfTrailingZeros_0 : List UInt8 := dkwJ10_numberOfTrailingZeros_0 ++ dktJ10_numberOfTrailingZeros_1
theorem dksJ10_numberOfTrailingZeros_0 : cJ10_numberOfTrailingZeros.data.toList.drop 0 = dktJ10_numberOfTrailingZeros_0 := by decide +kernel
theorem dksJ10_numberOfTrailingZeros_1 : cJ10_numberOfTrailingZeros.data.toList.drop 23 = dktJ10_numberOfTrailingZeros_1 := dk_seg dksJ10_numberOfTrailingZeros_0 23 rfl rfl
theorem dksJ10_numberOfTrailingZeros_2 : cJ10_numberOfTrailingZeros.data.toList.drop 47 = dktJ10_numberOfTrailingZeros_2 := dk_seg dksJ10_numberOfTrailingZeros_1 24 rfl rfl
theorem dksJ10_numberOfTrailingZeros_3 : cJ10_numberOfTrailingZeros.data.toList.drop 71 = dktJ10_numberOfTrailingZeros_3 := dk_seg dksJ10_numberOfTrailingZeros_2 24 rfl rfl
theorem dJ10_numberOfTrailingZeros_0 : decode cJ10_numberOfTrailingZeros 0 = .ok (.iload_n 0, 1) := dk_26 (dk_at dksJ10_numberOfTrailingZeros_0 0 rfl rfl)
theorem dJ10_numberOfTrailingZeros_1 : decode cJ10_numberOfTrailingZeros 1 = .ok (.iconst (-1), 1) := dk_2 (dk_at dksJ10_numberOfTrailingZeros_0 1 rfl rfl)
theorem dJ10_numberOfTrailingZeros_2 : decode cJ10_numberOfTrailingZeros 2 = .ok (.ixor, 1) := dk_130 (dk_at dksJ10_numberOfTrailingZeros_0 2 rfl rfl)
theorem dJ10_numberOfTrailingZeros_3 : decode cJ10_numberOfTrailingZeros 3 = .ok (.iload_n 0, 1) := dk_26 (dk_at dksJ10_numberOfTrailingZeros_0 3 rfl rfl)
theorem dJ10_numberOfTrailingZeros_4 : decode cJ10_numberOfTrailingZeros 4 = .ok (.iconst 1, 1) := dk_4 (dk_at dksJ10_numberOfTrailingZeros_0 4 rfl rfl)
theorem dJ10_numberOfTrailingZeros_5 : decode cJ10_numberOfTrailingZeros 5 = .ok (.isub, 1) := dk_100 (dk_at dksJ10_numberOfTrailingZeros_0 5 rfl rfl)
theorem dJ10_numberOfTrailingZeros_6 : decode cJ10_numberOfTrailingZeros 6 = .ok (.iand, 1) := dk_126 (dk_at dksJ10_numberOfTrailingZeros_0 6 rfl rfl)
theorem dJ10_numberOfTrailingZeros_7 : decode cJ10_numberOfTrailingZeros 7 = .ok (.istore_n 0, 1) := dk_59 (dk_at dksJ10_numberOfTrailingZeros_0 7 rfl rfl)
theorem dJ10_numberOfTrailingZeros_8 : decode cJ10_numberOfTrailingZeros 8 = .ok (.iload_n 0, 1) := dk_26 (dk_at dksJ10_numberOfTrailingZeros_0 8 rfl rfl)
theorem dJ10_numberOfTrailingZeros_9 : decode cJ10_numberOfTrailingZeros 9 = .ok (.ifCond .gt 8, 3) := dk_157 0 8 (dk_at dksJ10_numberOfTrailingZeros_0 9 rfl rfl)
theorem dJ10_numberOfTrailingZeros_12 : decode cJ10_numberOfTrailingZeros 12 = .ok (.iload_n 0, 1) := dk_26 (dk_at dksJ10_numberOfTrailingZeros_0 12 rfl rfl)
theorem dJ10_numberOfTrailingZeros_13 : decode cJ10_numberOfTrailingZeros 13 = .ok (.bipush 32, 2) := dk_16 32 (dk_at dksJ10_numberOfTrailingZeros_0 13 rfl rfl)
theorem dJ10_numberOfTrailingZeros_15 : decode cJ10_numberOfTrailingZeros 15 = .ok (.iand, 1) := dk_126 (dk_at dksJ10_numberOfTrailingZeros_0 15 rfl rfl)
theorem dJ10_numberOfTrailingZeros_16 : decode cJ10_numberOfTrailingZeros 16 = .ok (.ireturn, 1) := dk_172 (dk_at dksJ10_numberOfTrailingZeros_0 16 rfl rfl)
theorem dJ10_numberOfTrailingZeros_17 : decode cJ10_numberOfTrailingZeros 17 = .ok (.iconst 1, 1) := dk_4 (dk_at dksJ10_numberOfTrailingZeros_0 17 rfl rfl)
theorem dJ10_numberOfTrailingZeros_18 : decode cJ10_numberOfTrailingZeros 18 = .ok (.istore_n 1, 1) := dk_60 (dk_at dksJ10_numberOfTrailingZeros_0 18 rfl rfl)
theorem dJ10_numberOfTrailingZeros_19 : decode cJ10_numberOfTrailingZeros 19 = .ok (.iload_n 0, 1) := dk_26 (dk_at dksJ10_numberOfTrailingZeros_0 19 rfl rfl)
theorem dJ10_numberOfTrailingZeros_20 : decode cJ10_numberOfTrailingZeros 20 = .ok (.ldc_w 264, 3) := dk_19 1 8 (dk_at dksJ10_numberOfTrailingZeros_0 20 rfl rfl)
theorem dJ10_numberOfTrailingZeros_23 : decode cJ10_numberOfTrailingZeros 23 = .ok (.if_icmp .le 11, 3) := dk_164 0 11 (dk_at dksJ10_numberOfTrailingZeros_1 0 rfl rfl)
theorem dJ10_numberOfTrailingZeros_26 : decode cJ10_numberOfTrailingZeros 26 = .ok (.iinc 1 16, 3) := dk_132 1 16 (dk_at dksJ10_numberOfTrailingZeros_1 3 rfl rfl)
theorem dJ10_numberOfTrailingZeros_29 : decode cJ10_numberOfTrailingZeros 29 = .ok (.iload_n 0, 1) := dk_26 (dk_at dksJ10_numberOfTrailingZeros_1 6 rfl rfl)
theorem dJ10_numberOfTrailingZeros_30 : decode cJ10_numberOfTrailingZeros 30 = .ok (.bipush 16, 2) := dk_16 16 (dk_at dksJ10_numberOfTrailingZeros_1 7 rfl rfl)
theorem dJ10_numberOfTrailingZeros_32 : decode cJ10_numberOfTrailingZeros 32 = .ok (.iushr, 1) := dk_124 (dk_at dksJ10_numberOfTrailingZeros_1 9 rfl rfl)
theorem dJ10_numberOfTrailingZeros_33 : decode cJ10_numberOfTrailingZeros 33 = .ok (.istore_n 0, 1) := dk_59 (dk_at dksJ10_numberOfTrailingZeros_1 10 rfl rfl)
theorem dJ10_numberOfTrailingZeros_34 : decode cJ10_numberOfTrailingZeros 34 = .ok (.iload_n 0, 1) := dk_26 (dk_at dksJ10_numberOfTrailingZeros_1 11 rfl rfl)
theorem dJ10_numberOfTrailingZeros_35 : decode cJ10_numberOfTrailingZeros 35 = .ok (.sipush 256, 3) := dk_17 1 0 (dk_at dksJ10_numberOfTrailingZeros_1 12 rfl rfl)
theorem dJ10_numberOfTrailingZeros_38 : decode cJ10_numberOfTrailingZeros 38 = .ok (.if_icmp .le 11, 3) := dk_164 0 11 (dk_at dksJ10_numberOfTrailingZeros_1 15 rfl rfl)
theorem dJ10_numberOfTrailingZeros_41 : decode cJ10_numberOfTrailingZeros 41 = .ok (.iinc 1 8, 3) := dk_132 1 8 (dk_at dksJ10_numberOfTrailingZeros_1 18 rfl rfl)
theorem dJ10_numberOfTrailingZeros_44 : decode cJ10_numberOfTrailingZeros 44 = .ok (.iload_n 0, 1) := dk_26 (dk_at dksJ10_numberOfTrailingZeros_1 21 rfl rfl)
theorem dJ10_numberOfTrailingZeros_45 : decode cJ10_numberOfTrailingZeros 45 = .ok (.bipush 8, 2) := dk_16 8 (dk_at dksJ10_numberOfTrailingZeros_1 22 rfl rfl)
theorem dJ10_numberOfTrailingZeros_47 : decode cJ10_numberOfTrailingZeros 47 = .ok (.iushr, 1) := dk_124 (dk_at dksJ10_numberOfTrailingZeros_2 0 rfl rfl)
theorem dJ10_numberOfTrailingZeros_48 : decode cJ10_numberOfTrailingZeros 48 = .ok (.istore_n 0, 1) := dk_59 (dk_at dksJ10_numberOfTrailingZeros_2 1 rfl rfl)
theorem dJ10_numberOfTrailingZeros_49 : decode cJ10_numberOfTrailingZeros 49 = .ok (.iload_n 0, 1) := dk_26 (dk_at dksJ10_numberOfTrailingZeros_2 2 rfl rfl)
theorem dJ10_numberOfTrailingZeros_50 : decode cJ10_numberOfTrailingZeros 50 = .ok (.bipush 16, 2) := dk_16 16 (dk_at dksJ10_numberOfTrailingZeros_2 3 rfl rfl)
theorem dJ10_numberOfTrailingZeros_52 : decode cJ10_numberOfTrailingZeros 52 = .ok (.if_icmp .le 10, 3) := dk_164 0 10 (dk_at dksJ10_numberOfTrailingZeros_2 5 rfl rfl)
theorem dJ10_numberOfTrailingZeros_55 : decode cJ10_numberOfTrailingZeros 55 = .ok (.iinc 1 4, 3) := dk_132 1 4 (dk_at dksJ10_numberOfTrailingZeros_2 8 rfl rfl)
theorem dJ10_numberOfTrailingZeros_58 : decode cJ10_numberOfTrailingZeros 58 = .ok (.iload_n 0, 1) := dk_26 (dk_at dksJ10_numberOfTrailingZeros_2 11 rfl rfl)
theorem dJ10_numberOfTrailingZeros_59 : decode cJ10_numberOfTrailingZeros 59 = .ok (.iconst 4, 1) := dk_7 (dk_at dksJ10_numberOfTrailingZeros_2 12 rfl rfl)
theorem dJ10_numberOfTrailingZeros_60 : decode cJ10_numberOfTrailingZeros 60 = .ok (.iushr, 1) := dk_124 (dk_at dksJ10_numberOfTrailingZeros_2 13 rfl rfl)
theorem dJ10_numberOfTrailingZeros_61 : decode cJ10_numberOfTrailingZeros 61 = .ok (.istore_n 0, 1) := dk_59 (dk_at dksJ10_numberOfTrailingZeros_2 14 rfl rfl)
theorem dJ10_numberOfTrailingZeros_62 : decode cJ10_numberOfTrailingZeros 62 = .ok (.iload_n 0, 1) := dk_26 (dk_at dksJ10_numberOfTrailingZeros_2 15 rfl rfl)
theorem dJ10_numberOfTrailingZeros_63 : decode cJ10_numberOfTrailingZeros 63 = .ok (.iconst 4, 1) := dk_7 (dk_at dksJ10_numberOfTrailingZeros_2 16 rfl rfl)
theorem dJ10_numberOfTrailingZeros_64 : decode cJ10_numberOfTrailingZeros 64 = .ok (.if_icmp .le 10, 3) := dk_164 0 10 (dk_at dksJ10_numberOfTrailingZeros_2 17 rfl rfl)
theorem dJ10_numberOfTrailingZeros_67 : decode cJ10_numberOfTrailingZeros 67 = .ok (.iinc 1 2, 3) := dk_132 1 2 (dk_at dksJ10_numberOfTrailingZeros_2 20 rfl rfl)
theorem dJ10_numberOfTrailingZeros_70 : decode cJ10_numberOfTrailingZeros 70 = .ok (.iload_n 0, 1) := dk_26 (dk_at dksJ10_numberOfTrailingZeros_2 23 rfl rfl)
theorem dJ10_numberOfTrailingZeros_71 : decode cJ10_numberOfTrailingZeros 71 = .ok (.iconst 2, 1) := dk_5 (dk_at dksJ10_numberOfTrailingZeros_3 0 rfl rfl)
theorem dJ10_numberOfTrailingZeros_72 : decode cJ10_numberOfTrailingZeros 72 = .ok (.iushr, 1) := dk_124 (dk_at dksJ10_numberOfTrailingZeros_3 1 rfl rfl)
theorem dJ10_numberOfTrailingZeros_73 : decode cJ10_numberOfTrailingZeros 73 = .ok (.istore_n 0, 1) := dk_59 (dk_at dksJ10_numberOfTrailingZeros_3 2 rfl rfl)
theorem dJ10_numberOfTrailingZeros_74 : decode cJ10_numberOfTrailingZeros 74 = .ok (.iload_n 1, 1) := dk_27 (dk_at dksJ10_numberOfTrailingZeros_3 3 rfl rfl)
theorem dJ10_numberOfTrailingZeros_75 : decode cJ10_numberOfTrailingZeros 75 = .ok (.iload_n 0, 1) := dk_26 (dk_at dksJ10_numberOfTrailingZeros_3 4 rfl rfl)
theorem dJ10_numberOfTrailingZeros_76 : decode cJ10_numberOfTrailingZeros 76 = .ok (.iconst 1, 1) := dk_4 (dk_at dksJ10_numberOfTrailingZeros_3 5 rfl rfl)
theorem dJ10_numberOfTrailingZeros_77 : decode cJ10_numberOfTrailingZeros 77 = .ok (.iushr, 1) := dk_124 (dk_at dksJ10_numberOfTrailingZeros_3 6 rfl rfl)
theorem dJ10_numberOfTrailingZeros_78 : decode cJ10_numberOfTrailingZeros 78 = .ok (.iadd, 1) := dk_96 (dk_at dksJ10_numberOfTrailingZeros_3 7 rfl rfl)
theorem dJ10_numberOfTrailingZeros_79 : decode cJ10_numberOfTrailingZeros 79 = .ok (.ireturn, 1) := dk_172 (dk_at dksJ10_numberOfTrailingZeros_3 8 rfl rfl)
theorem dn_J10_numberOfTrailingZeros : yJ10_numberOfTrailingZeros.cls ≠ "java/lang/invoke/MethodHandle" ∧ yJ10_numberOfTrailingZeros.cls ≠ "java/lang/invoke/VarHandle" ∧ (parseMethodDescriptor yJ10_numberOfTrailingZeros.desc).map (fun d => d.parameters.length) = some 1 := by decide +kernel
noncomputable def M_J10_numberOfTrailingZeros (p1 : Int32) : Mo Int32 := Mo.lv ((p1 ^^^ (-1)) &&& (p1 - 1)) (fun v1 => if 0 < v1 then Mo.bind ((if v1 ≤ 65536 then Mo.pure (v1, 1) else Mo.lv (1 + 16) (fun v12 => Mo.lv ((v1.toUInt32 >>> ((16 : Int32).toUInt32 &&& Int32.toUInt32 31)).toInt32) (fun v13 => Mo.pure (v13, v12))) : Mo (Int32 × Int32))) (fun u2 => Mo.bind ((if u2.1 ≤ 256 then Mo.pure (u2.1, u2.2) else Mo.lv (u2.2 + 8) (fun v10 => Mo.lv ((u2.1.toUInt32 >>> ((8 : Int32).toUInt32 &&& Int32.toUInt32 31)).toInt32) (fun v11 => Mo.pure (v11, v10))) : Mo (Int32 × Int32))) (fun u3 => Mo.bind ((if u3.1 ≤ 16 then Mo.pure (u3.1, u3.2) else Mo.lv (u3.2 + 4) (fun v8 => Mo.lv ((u3.1.toUInt32 >>> ((4 : Int32).toUInt32 &&& Int32.toUInt32 31)).toInt32) (fun v9 => Mo.pure (v9, v8))) : Mo (Int32 × Int32))) (fun u4 => Mo.bind ((if u4.1 ≤ 4 then Mo.pure (u4.1, u4.2) else Mo.lv (u4.2 + 2) (fun v6 => Mo.lv ((u4.1.toUInt32 >>> ((2 : Int32).toUInt32 &&& Int32.toUInt32 31)).toInt32) (fun v7 => Mo.pure (v7, v6))) : Mo (Int32 × Int32))) (fun u5 => Mo.pure (u5.2 + ((u5.1.toUInt32 >>> ((1 : Int32).toUInt32 &&& Int32.toUInt32 31)).toInt32)))))) else Mo.pure (v1 &&& 32))
set_option maxHeartbeats 4000000 in
theorem ct_J10_numberOfTrailingZeros (G : gG) (p1 : Int32) : gCt G yJ10_numberOfTrailingZeros cJ10_numberOfTrailingZeros 2 (some .int) 0 0 [.int p1] (M_J10_numberOfTrailingZeros p1) (fun x : Int32 => some (.int x)) := by
  refine gCt.of (by decide) (Nat.le_of_ble_eq_true rfl) (fun K r hG X hd ho => ?_)
  subst hG
  have X : gX K cJ10_numberOfTrailingZeros 2 "java/lang/Integer" "numberOfTrailingZeros" (some .int) 0 0 := X
  have hle : gLe (kh1 K) (kh1 K) := gLe.rf
  show V K 2 (kh0 K) 0 [(0, .int p1)] []
  generalize kh0 K = h at hd ⊢
  unfold M_J10_numberOfTrailingZeros at hd
  refine v_iload_n X dJ10_numberOfTrailingZeros_0 0 0 rfl rfl ?_
  refine v_iconst (v := (-1)) X dJ10_numberOfTrailingZeros_1 (by decide) ?_
  refine v_ixor X dJ10_numberOfTrailingZeros_2 ?_
  refine v_iload_n X dJ10_numberOfTrailingZeros_3 0 0 rfl rfl ?_
  refine v_iconst (v := 1) X dJ10_numberOfTrailingZeros_4 (by decide) ?_
  refine v_isub X dJ10_numberOfTrailingZeros_5 ?_
  refine v_iand X dJ10_numberOfTrailingZeros_6 ?_
  refine v_lvI hd (fun v1 hd => ?_)
  refine v_istore_n (lv2 := [(0, .int v1)]) X dJ10_numberOfTrailingZeros_7 0 rfl (by decide) rfl ?_
  refine v_iload_n X dJ10_numberOfTrailingZeros_8 0 0 rfl rfl ?_
  refine v_if_gt (tgt := 17) X dJ10_numberOfTrailingZeros_9 (by decide) (fun q => ?_) (fun q => ?_)
  · have hd := ite_t q hd
    refine v_iconst (v := 1) X dJ10_numberOfTrailingZeros_17 (by decide) ?_
    refine v_istore_n (lv2 := [(1, .int 1), (0, .int v1)]) X dJ10_numberOfTrailingZeros_18 1 rfl (by decide) rfl ?_
    refine v_iload_n X dJ10_numberOfTrailingZeros_19 1 0 rfl rfl ?_
    refine v_ldcw X q1239 dJ10_numberOfTrailingZeros_20 ?_
    obtain ⟨u2, h1, hd, hd2⟩ := Mo.bind_some hd
    have KJ : V K 2 h1 34 [(0, .int u2.1), (1, .int u2.2)] [] := by
      clear hd
      have hd := hd2
      refine v_iload_n X dJ10_numberOfTrailingZeros_34 0 0 rfl rfl ?_
      refine v_sipush (v := 256) X dJ10_numberOfTrailingZeros_35 (by decide) ?_
      obtain ⟨u3, h1, hd, hd2⟩ := Mo.bind_some hd
      have KJ : V K 2 h1 49 [(0, .int u3.1), (1, .int u3.2)] [] := by
        clear hd
        have hd := hd2
        refine v_iload_n X dJ10_numberOfTrailingZeros_49 0 0 rfl rfl ?_
        refine v_bipush (v := 16) X dJ10_numberOfTrailingZeros_50 (by decide) ?_
        obtain ⟨u4, h1, hd, hd2⟩ := Mo.bind_some hd
        have KJ : V K 2 h1 62 [(0, .int u4.1), (1, .int u4.2)] [] := by
          clear hd
          have hd := hd2
          refine v_iload_n X dJ10_numberOfTrailingZeros_62 0 0 rfl rfl ?_
          refine v_iconst (v := 4) X dJ10_numberOfTrailingZeros_63 (by decide) ?_
          obtain ⟨u5, h1, hd, hd2⟩ := Mo.bind_some hd
          have KJ : V K 2 h1 74 [(0, .int u5.1), (1, .int u5.2)] [] := by
            clear hd
            have hd := hd2
            refine v_iload_n X dJ10_numberOfTrailingZeros_74 1 1 rfl rfl ?_
            refine v_iload_n X dJ10_numberOfTrailingZeros_75 0 0 rfl rfl ?_
            refine v_iconst (v := 1) X dJ10_numberOfTrailingZeros_76 (by decide) ?_
            refine v_iushr X dJ10_numberOfTrailingZeros_77 ?_
            refine v_iadd X dJ10_numberOfTrailingZeros_78 ?_
            exact v_iret X hd ho dJ10_numberOfTrailingZeros_79
          have hle := (Mo.le hd2).tr hle
          clear hd2
          refine v_icmp_le (tgt := 74) X dJ10_numberOfTrailingZeros_64 (by decide) (fun q => ?_) (fun q => ?_)
          · have hd := ite_t q hd
            exact v_loc [0, 1] rfl (v_at (P := fun (u5 : Int32 × Int32) h => V K 2 h 74 [(0, .int u5.1), (1, .int u5.2)] []) hd KJ)
          · have hd := ite_f q hd
            refine v_iincL (lv2 := fun v6 => [(1, .int v6), (0, .int u4.1)]) X hd dJ10_numberOfTrailingZeros_67 1 rfl (by decide : Int32.ofInt 2 = 2) (by decide) (fun v6 => rfl) (fun v6 hd => ?_)
            refine v_iload_n X dJ10_numberOfTrailingZeros_70 1 0 rfl rfl ?_
            refine v_iconst (v := 2) X dJ10_numberOfTrailingZeros_71 (by decide) ?_
            refine v_iushr X dJ10_numberOfTrailingZeros_72 ?_
            refine v_lvI hd (fun v7 hd => ?_)
            refine v_istore_n (lv2 := [(0, .int v7), (1, .int v6)]) X dJ10_numberOfTrailingZeros_73 0 rfl (by decide) rfl ?_
            exact v_loc [0, 1] rfl (v_at (P := fun (u5 : Int32 × Int32) h => V K 2 h 74 [(0, .int u5.1), (1, .int u5.2)] []) hd KJ)
        have hle := (Mo.le hd2).tr hle
        clear hd2
        refine v_icmp_le (tgt := 62) X dJ10_numberOfTrailingZeros_52 (by decide) (fun q => ?_) (fun q => ?_)
        · have hd := ite_t q hd
          exact v_loc [0, 1] rfl (v_at (P := fun (u4 : Int32 × Int32) h => V K 2 h 62 [(0, .int u4.1), (1, .int u4.2)] []) hd KJ)
        · have hd := ite_f q hd
          refine v_iincL (lv2 := fun v8 => [(1, .int v8), (0, .int u3.1)]) X hd dJ10_numberOfTrailingZeros_55 1 rfl (by decide : Int32.ofInt 4 = 4) (by decide) (fun v8 => rfl) (fun v8 hd => ?_)
          refine v_iload_n X dJ10_numberOfTrailingZeros_58 1 0 rfl rfl ?_
          refine v_iconst (v := 4) X dJ10_numberOfTrailingZeros_59 (by decide) ?_
          refine v_iushr X dJ10_numberOfTrailingZeros_60 ?_
          refine v_lvI hd (fun v9 hd => ?_)
          refine v_istore_n (lv2 := [(0, .int v9), (1, .int v8)]) X dJ10_numberOfTrailingZeros_61 0 rfl (by decide) rfl ?_
          exact v_loc [0, 1] rfl (v_at (P := fun (u4 : Int32 × Int32) h => V K 2 h 62 [(0, .int u4.1), (1, .int u4.2)] []) hd KJ)
      have hle := (Mo.le hd2).tr hle
      clear hd2
      refine v_icmp_le (tgt := 49) X dJ10_numberOfTrailingZeros_38 (by decide) (fun q => ?_) (fun q => ?_)
      · have hd := ite_t q hd
        exact v_loc [0, 1] rfl (v_at (P := fun (u3 : Int32 × Int32) h => V K 2 h 49 [(0, .int u3.1), (1, .int u3.2)] []) hd KJ)
      · have hd := ite_f q hd
        refine v_iincL (lv2 := fun v10 => [(1, .int v10), (0, .int u2.1)]) X hd dJ10_numberOfTrailingZeros_41 1 rfl (by decide : Int32.ofInt 8 = 8) (by decide) (fun v10 => rfl) (fun v10 hd => ?_)
        refine v_iload_n X dJ10_numberOfTrailingZeros_44 1 0 rfl rfl ?_
        refine v_bipush (v := 8) X dJ10_numberOfTrailingZeros_45 (by decide) ?_
        refine v_iushr X dJ10_numberOfTrailingZeros_47 ?_
        refine v_lvI hd (fun v11 hd => ?_)
        refine v_istore_n (lv2 := [(0, .int v11), (1, .int v10)]) X dJ10_numberOfTrailingZeros_48 0 rfl (by decide) rfl ?_
        exact v_loc [0, 1] rfl (v_at (P := fun (u3 : Int32 × Int32) h => V K 2 h 49 [(0, .int u3.1), (1, .int u3.2)] []) hd KJ)
    have hle := (Mo.le hd2).tr hle
    clear hd2
    refine v_icmp_le (tgt := 34) X dJ10_numberOfTrailingZeros_23 (by decide) (fun q => ?_) (fun q => ?_)
    · have hd := ite_t q hd
      exact v_loc [1, 0] rfl (v_at (P := fun (u2 : Int32 × Int32) h => V K 2 h 34 [(0, .int u2.1), (1, .int u2.2)] []) hd KJ)
    · have hd := ite_f q hd
      refine v_iincL (lv2 := fun v12 => [(1, .int v12), (0, .int v1)]) X hd dJ10_numberOfTrailingZeros_26 0 rfl (by decide : Int32.ofInt 16 = 16) (by decide) (fun v12 => rfl) (fun v12 hd => ?_)
      refine v_iload_n X dJ10_numberOfTrailingZeros_29 1 0 rfl rfl ?_
      refine v_bipush (v := 16) X dJ10_numberOfTrailingZeros_30 (by decide) ?_
      refine v_iushr X dJ10_numberOfTrailingZeros_32 ?_
      refine v_lvI hd (fun v13 hd => ?_)
      refine v_istore_n (lv2 := [(0, .int v13), (1, .int v12)]) X dJ10_numberOfTrailingZeros_33 0 rfl (by decide) rfl ?_
      exact v_loc [0, 1] rfl (v_at (P := fun (u2 : Int32 × Int32) h => V K 2 h 34 [(0, .int u2.1), (1, .int u2.2)] []) hd KJ)
  · have hd := ite_f q hd
    refine v_iload_n X dJ10_numberOfTrailingZeros_12 0 0 rfl rfl ?_
    refine v_bipush (v := 32) X dJ10_numberOfTrailingZeros_13 (by decide) ?_
    refine v_iand X dJ10_numberOfTrailingZeros_15 ?_
    exact v_iret X hd ho dJ10_numberOfTrailingZeros_16
def dkwX1_bitesAway_4 : List UInt8 := [172]
abbrev dktX1_bitesAway_4 : List UInt8 := dkwX1_bitesAway_4 ++ []
def dkwX1_bitesAway_3 : List UInt8 := [126, 79, 42, 180, 0, 130, 21, 5, 46, 154, 0, 7, 21, 5, 54, 4, 132, 5, 255, 167, 255, 182, 21, 4]
abbrev dktX1_bitesAway_3 : List UInt8 := dkwX1_bitesAway_3 ++ dktX1_bitesAway_4
def dkwX1_bitesAway_2 : List UInt8 := [42, 180, 0, 130, 21, 5, 92, 46, 42, 180, 0, 90, 180, 0, 243, 27, 28, 21, 5, 182, 1, 69, 2, 130]
abbrev dktX1_bitesAway_2 : List UInt8 := dkwX1_bitesAway_2 ++ dktX1_bitesAway_3
def dkwX1_bitesAway_1 : List UInt8 := [29, 160, 0, 6, 167, 0, 60, 21, 5, 27, 159, 0, 40, 42, 180, 0, 133, 21, 5, 46, 2, 160, 0, 29]
abbrev dktX1_bitesAway_1 : List UInt8 := dkwX1_bitesAway_1 ++ dktX1_bitesAway_2
def dkwX1_bitesAway_0 : List UInt8 := [2, 54, 4, 42, 180, 0, 90, 180, 0, 243, 180, 0, 247, 4, 100, 54, 5, 21, 5, 155, 0, 75, 21, 5]
abbrev dktX1_bitesAway_0 : List UInt8 := dkwX1_bitesAway_0 ++ dktX1_bitesAway_1
theorem dksX1_bitesAway_0 : cX1_bitesAway.data.toList.drop 0 = dktX1_bitesAway_0 := by decide +kernel
theorem dksX1_bitesAway_1 : cX1_bitesAway.data.toList.drop 24 = dktX1_bitesAway_1 := dk_seg dksX1_bitesAway_0 24 rfl rfl
theorem dksX1_bitesAway_2 : cX1_bitesAway.data.toList.drop 48 = dktX1_bitesAway_2 := dk_seg dksX1_bitesAway_1 24 rfl rfl
theorem dksX1_bitesAway_3 : cX1_bitesAway.data.toList.drop 72 = dktX1_bitesAway_3 := dk_seg dksX1_bitesAway_2 24 rfl rfl
theorem dksX1_bitesAway_4 : cX1_bitesAway.data.toList.drop 96 = dktX1_bitesAway_4 := dk_seg dksX1_bitesAway_3 24 rfl rfl
theorem dX1_bitesAway_0 : decode cX1_bitesAway 0 = .ok (.iconst (-1), 1) := dk_2 (dk_at dksX1_bitesAway_0 0 rfl rfl)
theorem dX1_bitesAway_1 : decode cX1_bitesAway 1 = .ok (.istore 4, 2) := dk_54 4 (dk_at dksX1_bitesAway_0 1 rfl rfl)
theorem dX1_bitesAway_3 : decode cX1_bitesAway 3 = .ok (.aload_n 0, 1) := dk_42 (dk_at dksX1_bitesAway_0 3 rfl rfl)
theorem dX1_bitesAway_4 : decode cX1_bitesAway 4 = .ok (.getfield 90, 3) := dk_180 0 90 (dk_at dksX1_bitesAway_0 4 rfl rfl)
theorem dX1_bitesAway_7 : decode cX1_bitesAway 7 = .ok (.getfield 243, 3) := dk_180 0 243 (dk_at dksX1_bitesAway_0 7 rfl rfl)
theorem dX1_bitesAway_10 : decode cX1_bitesAway 10 = .ok (.getfield 247, 3) := dk_180 0 247 (dk_at dksX1_bitesAway_0 10 rfl rfl)
theorem dX1_bitesAway_13 : decode cX1_bitesAway 13 = .ok (.iconst 1, 1) := dk_4 (dk_at dksX1_bitesAway_0 13 rfl rfl)
theorem dX1_bitesAway_14 : decode cX1_bitesAway 14 = .ok (.isub, 1) := dk_100 (dk_at dksX1_bitesAway_0 14 rfl rfl)
theorem dX1_bitesAway_15 : decode cX1_bitesAway 15 = .ok (.istore 5, 2) := dk_54 5 (dk_at dksX1_bitesAway_0 15 rfl rfl)
theorem dX1_bitesAway_17 : decode cX1_bitesAway 17 = .ok (.iload 5, 2) := dk_21 5 (dk_at dksX1_bitesAway_0 17 rfl rfl)
theorem dX1_bitesAway_19 : decode cX1_bitesAway 19 = .ok (.ifCond .lt 75, 3) := dk_155 0 75 (dk_at dksX1_bitesAway_0 19 rfl rfl)
theorem dX1_bitesAway_22 : decode cX1_bitesAway 22 = .ok (.iload 5, 2) := dk_21 5 (dk_at dksX1_bitesAway_0 22 rfl rfl)
theorem dX1_bitesAway_24 : decode cX1_bitesAway 24 = .ok (.iload_n 3, 1) := dk_29 (dk_at dksX1_bitesAway_1 0 rfl rfl)
theorem dX1_bitesAway_25 : decode cX1_bitesAway 25 = .ok (.if_icmp .ne 6, 3) := dk_160 0 6 (dk_at dksX1_bitesAway_1 1 rfl rfl)
theorem dX1_bitesAway_28 : decode cX1_bitesAway 28 = .ok (.goto 60, 3) := dk_167 0 60 (dk_at dksX1_bitesAway_1 4 rfl rfl)
theorem dX1_bitesAway_31 : decode cX1_bitesAway 31 = .ok (.iload 5, 2) := dk_21 5 (dk_at dksX1_bitesAway_1 7 rfl rfl)
theorem dX1_bitesAway_33 : decode cX1_bitesAway 33 = .ok (.iload_n 1, 1) := dk_27 (dk_at dksX1_bitesAway_1 9 rfl rfl)
theorem dX1_bitesAway_34 : decode cX1_bitesAway 34 = .ok (.if_icmp .eq 40, 3) := dk_159 0 40 (dk_at dksX1_bitesAway_1 10 rfl rfl)
theorem dX1_bitesAway_37 : decode cX1_bitesAway 37 = .ok (.aload_n 0, 1) := dk_42 (dk_at dksX1_bitesAway_1 13 rfl rfl)
theorem dX1_bitesAway_38 : decode cX1_bitesAway 38 = .ok (.getfield 133, 3) := dk_180 0 133 (dk_at dksX1_bitesAway_1 14 rfl rfl)
theorem dX1_bitesAway_41 : decode cX1_bitesAway 41 = .ok (.iload 5, 2) := dk_21 5 (dk_at dksX1_bitesAway_1 17 rfl rfl)
theorem dX1_bitesAway_43 : decode cX1_bitesAway 43 = .ok (.iaload, 1) := dk_46 (dk_at dksX1_bitesAway_1 19 rfl rfl)
theorem dX1_bitesAway_44 : decode cX1_bitesAway 44 = .ok (.iconst (-1), 1) := dk_2 (dk_at dksX1_bitesAway_1 20 rfl rfl)
theorem dX1_bitesAway_45 : decode cX1_bitesAway 45 = .ok (.if_icmp .ne 29, 3) := dk_160 0 29 (dk_at dksX1_bitesAway_1 21 rfl rfl)
theorem dX1_bitesAway_48 : decode cX1_bitesAway 48 = .ok (.aload_n 0, 1) := dk_42 (dk_at dksX1_bitesAway_2 0 rfl rfl)
theorem dX1_bitesAway_49 : decode cX1_bitesAway 49 = .ok (.getfield 130, 3) := dk_180 0 130 (dk_at dksX1_bitesAway_2 1 rfl rfl)
theorem dX1_bitesAway_52 : decode cX1_bitesAway 52 = .ok (.iload 5, 2) := dk_21 5 (dk_at dksX1_bitesAway_2 4 rfl rfl)
theorem dX1_bitesAway_54 : decode cX1_bitesAway 54 = .ok (.dup2, 1) := dk_92 (dk_at dksX1_bitesAway_2 6 rfl rfl)
theorem dX1_bitesAway_55 : decode cX1_bitesAway 55 = .ok (.iaload, 1) := dk_46 (dk_at dksX1_bitesAway_2 7 rfl rfl)
theorem dX1_bitesAway_56 : decode cX1_bitesAway 56 = .ok (.aload_n 0, 1) := dk_42 (dk_at dksX1_bitesAway_2 8 rfl rfl)
theorem dX1_bitesAway_57 : decode cX1_bitesAway 57 = .ok (.getfield 90, 3) := dk_180 0 90 (dk_at dksX1_bitesAway_2 9 rfl rfl)
theorem dX1_bitesAway_60 : decode cX1_bitesAway 60 = .ok (.getfield 243, 3) := dk_180 0 243 (dk_at dksX1_bitesAway_2 12 rfl rfl)
theorem dX1_bitesAway_63 : decode cX1_bitesAway 63 = .ok (.iload_n 1, 1) := dk_27 (dk_at dksX1_bitesAway_2 15 rfl rfl)
theorem dX1_bitesAway_64 : decode cX1_bitesAway 64 = .ok (.iload_n 2, 1) := dk_28 (dk_at dksX1_bitesAway_2 16 rfl rfl)
theorem dX1_bitesAway_65 : decode cX1_bitesAway 65 = .ok (.iload 5, 2) := dk_21 5 (dk_at dksX1_bitesAway_2 17 rfl rfl)
theorem dX1_bitesAway_67 : decode cX1_bitesAway 67 = .ok (.invokevirtual 325, 3) := dk_182 1 69 (dk_at dksX1_bitesAway_2 19 rfl rfl)
theorem dX1_bitesAway_70 : decode cX1_bitesAway 70 = .ok (.iconst (-1), 1) := dk_2 (dk_at dksX1_bitesAway_2 22 rfl rfl)
theorem dX1_bitesAway_71 : decode cX1_bitesAway 71 = .ok (.ixor, 1) := dk_130 (dk_at dksX1_bitesAway_2 23 rfl rfl)
theorem dX1_bitesAway_72 : decode cX1_bitesAway 72 = .ok (.iand, 1) := dk_126 (dk_at dksX1_bitesAway_3 0 rfl rfl)
theorem dX1_bitesAway_73 : decode cX1_bitesAway 73 = .ok (.iastore, 1) := dk_79 (dk_at dksX1_bitesAway_3 1 rfl rfl)
theorem dX1_bitesAway_74 : decode cX1_bitesAway 74 = .ok (.aload_n 0, 1) := dk_42 (dk_at dksX1_bitesAway_3 2 rfl rfl)
theorem dX1_bitesAway_75 : decode cX1_bitesAway 75 = .ok (.getfield 130, 3) := dk_180 0 130 (dk_at dksX1_bitesAway_3 3 rfl rfl)
theorem dX1_bitesAway_78 : decode cX1_bitesAway 78 = .ok (.iload 5, 2) := dk_21 5 (dk_at dksX1_bitesAway_3 6 rfl rfl)
theorem dX1_bitesAway_80 : decode cX1_bitesAway 80 = .ok (.iaload, 1) := dk_46 (dk_at dksX1_bitesAway_3 8 rfl rfl)
theorem dX1_bitesAway_81 : decode cX1_bitesAway 81 = .ok (.ifCond .ne 7, 3) := dk_154 0 7 (dk_at dksX1_bitesAway_3 9 rfl rfl)
theorem dX1_bitesAway_84 : decode cX1_bitesAway 84 = .ok (.iload 5, 2) := dk_21 5 (dk_at dksX1_bitesAway_3 12 rfl rfl)
theorem dX1_bitesAway_86 : decode cX1_bitesAway 86 = .ok (.istore 4, 2) := dk_54 4 (dk_at dksX1_bitesAway_3 14 rfl rfl)
theorem dX1_bitesAway_88 : decode cX1_bitesAway 88 = .ok (.iinc 5 (-1), 3) := dk_132 5 255 (dk_at dksX1_bitesAway_3 16 rfl rfl)
theorem dX1_bitesAway_91 : decode cX1_bitesAway 91 = .ok (.goto (-74), 3) := dk_167 255 182 (dk_at dksX1_bitesAway_3 19 rfl rfl)
theorem dX1_bitesAway_94 : decode cX1_bitesAway 94 = .ok (.iload 4, 2) := dk_21 4 (dk_at dksX1_bitesAway_3 22 rfl rfl)
theorem dX1_bitesAway_96 : decode cX1_bitesAway 96 = .ok (.ireturn, 1) := dk_172 (dk_at dksX1_bitesAway_4 0 rfl rfl)
theorem fl_X1_130 : gFl "BitingDoors" 130 [0] 21 := by
  intro args s hts hN ci hc
  simp only [List.mem_cons, List.not_mem_nil, or_false] at hc
  subst hc
  exact ⟨RX1, TX1, 46, "BitingDoors", gCl_X1, in_X1, by decide, Or.inl (hts _ q522), fun _ h => h⟩
theorem dn_X1_bitesAway : yX1_bitesAway.cls ≠ "java/lang/invoke/MethodHandle" ∧ yX1_bitesAway.cls ≠ "java/lang/invoke/VarHandle" ∧ (parseMethodDescriptor yX1_bitesAway.desc).map (fun d => d.parameters.length) = some 3 := by decide +kernel
noncomputable def M_X1_bitesAway (t : Nat) (p1 : Int32) (p2 : Int32) (p3 : Int32) : Mo Int32 := Mo.bind (chk [0] t) (fun _ => Mo.bind (gR [0] t 9) (fun v1 => Mo.bind (gR [2] v1 0) (fun v2 => Mo.bind (gI [3] v2 6) (fun v3 => Mo.lv (v3 - 1) (fun v4 => Mo.bind (Mo.loop (S := Int32 × Int32) (E := Int32) (fun s5 => if s5.2 < 0 then Mo.pure (Sum.inr s5.1) else Mo.bind ((if s5.2 = p3 then Mo.pure s5.1 else Mo.bind ((if s5.2 = p1 then Mo.pure () else Mo.bind (gR [0] t 22) (fun v14 => Mo.bind (aldI 0 v14 s5.2) (fun v15 => if v15 = (-1) then Mo.bind (gR [0] t 21) (fun v16 => Mo.bind (aldI 0 v16 s5.2) (fun v17 => Mo.bind (gR [0] t 9) (fun v18 => Mo.bind (gR [2] v18 0) (fun v19 => Mo.bind (M_X4_bitten v19 p1 p2 s5.2) (fun v20 => Mo.bind (astI 0 v16 s5.2 (v17 &&& (v20 ^^^ (-1)))) (fun _ => Mo.pure ())))))) else Mo.pure ())) : Mo (Unit))) (fun u11 => Mo.bind (gR [0] t 21) (fun v12 => Mo.bind (aldI 0 v12 s5.2) (fun v13 => if v13 = 0 then Mo.pure s5.2 else Mo.pure s5.1))) : Mo (Int32))) (fun u9 => Mo.lv (s5.2 + (-1)) (fun v10 => Mo.pure (Sum.inl (u9, v10))))) ((-1), v4)) (fun e8 => Mo.pure e8))))))
set_option maxHeartbeats 4000000 in
theorem ct_X1_bitesAway (G : gG) (t : Nat) (p1 : Int32) (p2 : Int32) (p3 : Int32) : gCt G yX1_bitesAway cX1_bitesAway 6 (some .int) 1 23 [.ref t, .int p1, .int p2, .int p3] (M_X1_bitesAway t p1 p2 p3) (fun x : Int32 => some (.int x)) := by
  refine gCt.of (by decide) (Nat.le_of_ble_eq_true rfl) (fun K r hG X hd ho => ?_)
  subst hG
  have X : gX K cX1_bitesAway 6 "BitingDoors" "bitesAway" (some .int) 1 23 := X
  have hle : gLe (kh1 K) (kh1 K) := gLe.rf
  show V K 6 (kh0 K) 0 [(0, .ref t), (1, .int p1), (2, .int p2), (3, .int p3)] []
  generalize kh0 K = h at hd ⊢
  unfold M_X1_bitesAway at hd
  obtain ⟨-, hd⟩ := chk_some hd
  refine v_iconst (v := (-1)) X dX1_bitesAway_0 (by decide) ?_
  refine v_istore (lv2 := [(4, .int (-1)), (0, .ref t), (1, .int p1), (2, .int p2), (3, .int p3)]) X dX1_bitesAway_1 (by decide) rfl ?_
  refine v_aload_n X dX1_bitesAway_3 1 0 rfl rfl ?_
  refine v_getR X hd fl_X1_90 dX1_bitesAway_4 (fun v1 hd => ?_)
  refine v_getR X hd fl_X1_243 dX1_bitesAway_7 (fun v2 hd => ?_)
  refine v_getI X hd fl_X1_247 dX1_bitesAway_10 (fun v3 hd => ?_)
  refine v_iconst (v := 1) X dX1_bitesAway_13 (by decide) ?_
  refine v_isub X dX1_bitesAway_14 ?_
  refine v_lvI hd (fun v4 hd => ?_)
  refine v_istore (lv2 := [(5, .int v4), (4, .int (-1)), (0, .ref t), (1, .int p1), (2, .int p2), (3, .int p3)]) X dX1_bitesAway_15 (by decide) rfl ?_
  obtain ⟨e8, h1, hd, hd2⟩ := Mo.bind_some hd
  have KX : V K 6 h1 94 [(4, .int e8)] [] := by
    clear hd
    have hd := hd2
    refine v_iload X dX1_bitesAway_94 0 rfl ?_
    exact v_iret X hd ho dX1_bitesAway_96
  have hle := (Mo.le hd2).tr hle
  clear hd2
  refine v_loc [2, 3, 4, 5, 1, 0] rfl ?_
  refine loop_ind hd (fun (s5 : Int32 × Int32) h => V K 6 h 17 [(0, .ref t), (1, .int p1), (2, .int p2), (3, .int p3), (4, .int s5.1), (5, .int s5.2)] []) (fun s5 h x h2 hd hle0 ih6 ho7 => ?_)
  have hle := hle0.tr hle
  refine v_iload X dX1_bitesAway_17 5 rfl ?_
  refine v_if_lt (tgt := 94) X dX1_bitesAway_19 (by decide) (fun q => ?_) (fun q => ?_)
  · have hd := ite_t q hd
    exact v_loc [4] rfl (v_at (P := fun (e8 : Int32) h => V K 6 h 94 [(4, .int e8)] []) (lp_out hd ho7) KX)
  · have hd := ite_f q hd
    refine v_iload X dX1_bitesAway_22 5 rfl ?_
    refine v_iload_n X dX1_bitesAway_24 3 3 rfl rfl ?_
    obtain ⟨u9, h1, hd, hd2⟩ := Mo.bind_some hd
    have KJ : V K 6 h1 88 [(0, .ref t), (1, .int p1), (2, .int p2), (3, .int p3), (4, .int u9), (5, .int s5.2)] [] := by
      clear hd
      have hd := hd2
      refine v_iincL (lv2 := fun v10 => [(5, .int v10), (0, .ref t), (1, .int p1), (2, .int p2), (3, .int p3), (4, .int u9)]) X hd dX1_bitesAway_88 5 rfl (by decide : Int32.ofInt (-1) = (-1)) (by decide) (fun v10 => rfl) (fun v10 hd => ?_)
      refine v_goto (tgt := 17) X dX1_bitesAway_91 (by decide) ?_
      exact v_loc [1, 2, 3, 4, 5, 0] rfl (lp_in (P := fun (s5 : Int32 × Int32) h => V K 6 h 17 [(0, .ref t), (1, .int p1), (2, .int p2), (3, .int p3), (4, .int s5.1), (5, .int s5.2)] []) hd ih6)
    have hle := (Mo.le hd2).tr hle
    clear hd2
    refine v_icmp_ne (tgt := 31) X dX1_bitesAway_25 (by decide) (fun q => ?_) (fun q => ?_)
    · have hd := ite_f q hd
      refine v_iload X dX1_bitesAway_31 5 rfl ?_
      refine v_iload_n X dX1_bitesAway_33 1 1 rfl rfl ?_
      obtain ⟨u11, h1, hd, hd2⟩ := Mo.bind_some hd
      have KJ : V K 6 h1 74 [(0, .ref t), (1, .int p1), (2, .int p2), (3, .int p3), (4, .int s5.1), (5, .int s5.2)] [] := by
        clear hd
        have hd := hd2
        refine v_aload_n X dX1_bitesAway_74 0 0 rfl rfl ?_
        refine v_getR X hd fl_X1_130 dX1_bitesAway_75 (fun v12 hd => ?_)
        refine v_iload X dX1_bitesAway_78 5 rfl ?_
        refine v_iald X hd dX1_bitesAway_80 (fun v13 hd => ?_)
        refine v_if_ne (tgt := 88) X dX1_bitesAway_81 (by decide) (fun q => ?_) (fun q => ?_)
        · have hd := ite_f q hd
          exact v_loc [0, 1, 2, 3, 4, 5] rfl (v_at (P := fun (u9 : Int32) h => V K 6 h 88 [(0, .ref t), (1, .int p1), (2, .int p2), (3, .int p3), (4, .int u9), (5, .int s5.2)] []) hd KJ)
        · have hd := ite_t q hd
          refine v_iload X dX1_bitesAway_84 5 rfl ?_
          refine v_istore (lv2 := [(4, .int s5.2), (0, .ref t), (1, .int p1), (2, .int p2), (3, .int p3), (5, .int s5.2)]) X dX1_bitesAway_86 (by decide) rfl ?_
          exact v_loc [1, 2, 3, 4, 0, 5] rfl (v_at (P := fun (u9 : Int32) h => V K 6 h 88 [(0, .ref t), (1, .int p1), (2, .int p2), (3, .int p3), (4, .int u9), (5, .int s5.2)] []) hd KJ)
      have hle := (Mo.le hd2).tr hle
      clear hd2
      refine v_icmp_eq (tgt := 74) X dX1_bitesAway_34 (by decide) (fun q => ?_) (fun q => ?_)
      · have hd := ite_t q hd
        exact v_loc [0, 1, 2, 3, 4, 5] rfl (v_at (P := fun (u11 : Unit) h => V K 6 h 74 [(0, .ref t), (1, .int p1), (2, .int p2), (3, .int p3), (4, .int s5.1), (5, .int s5.2)] []) hd KJ)
      · have hd := ite_f q hd
        refine v_aload_n X dX1_bitesAway_37 0 0 rfl rfl ?_
        refine v_getR X hd fl_X1_133 dX1_bitesAway_38 (fun v14 hd => ?_)
        refine v_iload X dX1_bitesAway_41 5 rfl ?_
        refine v_iald X hd dX1_bitesAway_43 (fun v15 hd => ?_)
        refine v_iconst (v := (-1)) X dX1_bitesAway_44 (by decide) ?_
        refine v_icmp_ne (tgt := 74) X dX1_bitesAway_45 (by decide) (fun q => ?_) (fun q => ?_)
        · have hd := ite_f q hd
          exact v_loc [0, 1, 2, 3, 4, 5] rfl (v_at (P := fun (u11 : Unit) h => V K 6 h 74 [(0, .ref t), (1, .int p1), (2, .int p2), (3, .int p3), (4, .int s5.1), (5, .int s5.2)] []) hd KJ)
        · have hd := ite_t q hd
          refine v_aload_n X dX1_bitesAway_48 0 0 rfl rfl ?_
          refine v_getR X hd fl_X1_130 dX1_bitesAway_49 (fun v16 hd => ?_)
          refine v_iload X dX1_bitesAway_52 5 rfl ?_
          refine v_dup2 X dX1_bitesAway_54 rfl rfl ?_
          refine v_iald X hd dX1_bitesAway_55 (fun v17 hd => ?_)
          refine v_aload_n X dX1_bitesAway_56 0 0 rfl rfl ?_
          refine v_getR X hd fl_X1_90 dX1_bitesAway_57 (fun v18 hd => ?_)
          refine v_getR X hd fl_X1_243 dX1_bitesAway_60 (fun v19 hd => ?_)
          refine v_iload_n X dX1_bitesAway_63 1 1 rfl rfl ?_
          refine v_iload_n X dX1_bitesAway_64 2 2 rfl rfl ?_
          refine v_iload X dX1_bitesAway_65 5 rfl ?_
          refine v_callV X hd hle (ct_X4_bitten _ v19 p1 p2 s5.2) gCl_X4 (lw_V q1159 q1160 q1161 q114 q1162) ⟨rfl, dn_X4_bitten⟩ rfl ⟨by decide, by decide⟩ rfl (Nat.le_of_ble_eq_true rfl) dX1_bitesAway_67 (fun v20 h hd => ?_)
          show V K 6 h 70 [(0, .ref t), (1, .int p1), (2, .int p2), (3, .int p3), (4, .int s5.1), (5, .int s5.2)] [.int v20, .int v17, .int s5.2, .ref v16]
          refine v_iconst (v := (-1)) X dX1_bitesAway_70 (by decide) ?_
          refine v_ixor X dX1_bitesAway_71 ?_
          refine v_iand X dX1_bitesAway_72 ?_
          refine v_iast X hd dX1_bitesAway_73 (fun h hd => ?_)
          exact v_loc [0, 1, 2, 3, 4, 5] rfl (v_at (P := fun (u11 : Unit) h => V K 6 h 74 [(0, .ref t), (1, .int p1), (2, .int p2), (3, .int p3), (4, .int s5.1), (5, .int s5.2)] []) hd KJ)
    · have hd := ite_t q hd
      refine v_goto (tgt := 88) X dX1_bitesAway_28 (by decide) ?_
      exact v_loc [0, 1, 2, 3, 4, 5] rfl (v_at (P := fun (u9 : Int32) h => V K 6 h 88 [(0, .ref t), (1, .int p1), (2, .int p2), (3, .int p3), (4, .int u9), (5, .int s5.2)] []) hd KJ)
def dkwX1_forces_12 : List UInt8 := [160, 0, 8, 21, 5, 167, 0, 5, 21, 4, 172]
abbrev dktX1_forces_12 : List UInt8 := dkwX1_forces_12 ++ []
def dkwX1_forces_11 : List UInt8 := [182, 1, 124, 54, 4, 167, 255, 114, 29, 154, 0, 11, 21, 5, 184, 1, 130, 167, 0, 15, 29, 4]
abbrev dktX1_forces_11 : List UInt8 := dkwX1_forces_11 ++ dktX1_forces_12
def dkwX1_forces_10 : List UInt8 := [79, 42, 89, 180, 1, 127, 4, 96, 181, 1, 127, 42, 21, 6, 42, 180, 0, 133, 21, 6, 46, 27]
abbrev dktX1_forces_10 : List UInt8 := dkwX1_forces_10 ++ dktX1_forces_11
def dkwX1_forces_9 : List UInt8 := [184, 1, 135, 79, 21, 5, 21, 6, 184, 1, 138, 128, 54, 5, 42, 180, 0, 136, 42, 180, 1, 127, 21, 6]
abbrev dktX1_forces_9 : List UInt8 := dkwX1_forces_9 ++ dktX1_forces_10
def dkwX1_forces_8 : List UInt8 := [21, 6, 2, 160, 0, 6, 167, 0, 70, 42, 180, 0, 133, 21, 6, 42, 180, 0, 130, 21, 6, 46]
abbrev dktX1_forces_8 : List UInt8 := dkwX1_forces_8 ++ dktX1_forces_9
def dkwX1_forces_7 : List UInt8 := [42, 180, 0, 130, 21, 7, 46, 184, 1, 130, 4, 160, 0, 7, 21, 7, 54, 6, 132, 7, 255, 167, 255, 213]
abbrev dktX1_forces_7 : List UInt8 := dkwX1_forces_7 ++ dktX1_forces_8
def dkwX1_forces_6 : List UInt8 := [54, 7, 21, 7, 155, 0, 44, 21, 7, 27, 159, 0, 32, 42, 180, 0, 133, 21, 7, 46, 2, 160, 0, 21]
abbrev dktX1_forces_6 : List UInt8 := dkwX1_forces_6 ++ dktX1_forces_7
def dkwX1_forces_5 : List UInt8 := [181, 1, 127, 21, 4, 2, 160, 0, 142, 2, 54, 6, 42, 180, 0, 90, 180, 0, 243, 180, 0, 247, 4, 100]
abbrev dktX1_forces_5 : List UInt8 := dkwX1_forces_5 ++ dktX1_forces_6
def dkwX1_forces_4 : List UInt8 := [21, 4, 2, 79, 132, 4, 1, 167, 255, 238, 42, 27, 28, 27, 182, 1, 124, 54, 4, 3, 54, 5, 42, 3]
abbrev dktX1_forces_4 : List UInt8 := dkwX1_forces_4 ++ dktX1_forces_5
def dkwX1_forces_3 : List UInt8 := [180, 0, 243, 180, 0, 247, 181, 1, 121, 3, 54, 4, 21, 4, 16, 10, 162, 0, 17, 42, 180, 0, 133]
abbrev dktX1_forces_3 : List UInt8 := dkwX1_forces_3 ++ dktX1_forces_4
def dkwX1_forces_2 : List UInt8 := [182, 1, 102, 42, 180, 0, 120, 3, 42, 180, 0, 130, 3, 16, 10, 184, 1, 89, 42, 42, 180, 0, 90]
abbrev dktX1_forces_2 : List UInt8 := dkwX1_forces_2 ++ dktX1_forces_3
def dkwX1_forces_1 : List UInt8 := [42, 180, 0, 90, 180, 0, 243, 27, 182, 1, 80, 28, 184, 1, 73, 154, 0, 6, 16, 254, 172, 42]
abbrev dktX1_forces_1 : List UInt8 := dkwX1_forces_1 ++ dktX1_forces_2
def dkwX1_forces_0 : List UInt8 := [42, 27, 182, 1, 7, 153, 0, 37, 28, 184, 1, 42, 153, 0, 30, 29, 3, 5, 184, 0, 248, 153, 0, 21]
abbrev dktX1_forces_0 : List UInt8 := dkwX1_forces_0 ++ dktX1_forces_1
theorem dksX1_forces_0 : cX1_forces.data.toList.drop 0 = dktX1_forces_0 := by decide +kernel
theorem dksX1_forces_1 : cX1_forces.data.toList.drop 24 = dktX1_forces_1 := dk_seg dksX1_forces_0 24 rfl rfl
theorem dksX1_forces_2 : cX1_forces.data.toList.drop 46 = dktX1_forces_2 := dk_seg dksX1_forces_1 22 rfl rfl
theorem dksX1_forces_3 : cX1_forces.data.toList.drop 69 = dktX1_forces_3 := dk_seg dksX1_forces_2 23 rfl rfl
theorem dksX1_forces_4 : cX1_forces.data.toList.drop 92 = dktX1_forces_4 := dk_seg dksX1_forces_3 23 rfl rfl
theorem dksX1_forces_5 : cX1_forces.data.toList.drop 116 = dktX1_forces_5 := dk_seg dksX1_forces_4 24 rfl rfl
theorem dksX1_forces_6 : cX1_forces.data.toList.drop 140 = dktX1_forces_6 := dk_seg dksX1_forces_5 24 rfl rfl
theorem dksX1_forces_7 : cX1_forces.data.toList.drop 164 = dktX1_forces_7 := dk_seg dksX1_forces_6 24 rfl rfl
theorem dksX1_forces_8 : cX1_forces.data.toList.drop 188 = dktX1_forces_8 := dk_seg dksX1_forces_7 24 rfl rfl
theorem dksX1_forces_9 : cX1_forces.data.toList.drop 210 = dktX1_forces_9 := dk_seg dksX1_forces_8 22 rfl rfl
theorem dksX1_forces_10 : cX1_forces.data.toList.drop 234 = dktX1_forces_10 := dk_seg dksX1_forces_9 24 rfl rfl
theorem dksX1_forces_11 : cX1_forces.data.toList.drop 256 = dktX1_forces_11 := dk_seg dksX1_forces_10 22 rfl rfl
theorem dksX1_forces_12 : cX1_forces.data.toList.drop 278 = dktX1_forces_12 := dk_seg dksX1_forces_11 22 rfl rfl
theorem dX1_forces_0 : decode cX1_forces 0 = .ok (.aload_n 0, 1) := dk_42 (dk_at dksX1_forces_0 0 rfl rfl)
theorem dX1_forces_1 : decode cX1_forces 1 = .ok (.iload_n 1, 1) := dk_27 (dk_at dksX1_forces_0 1 rfl rfl)
theorem dX1_forces_2 : decode cX1_forces 2 = .ok (.invokevirtual 263, 3) := dk_182 1 7 (dk_at dksX1_forces_0 2 rfl rfl)
theorem dX1_forces_5 : decode cX1_forces 5 = .ok (.ifCond .eq 37, 3) := dk_153 0 37 (dk_at dksX1_forces_0 5 rfl rfl)
theorem dX1_forces_8 : decode cX1_forces 8 = .ok (.iload_n 2, 1) := dk_28 (dk_at dksX1_forces_0 8 rfl rfl)
theorem dX1_forces_9 : decode cX1_forces 9 = .ok (.invokestatic 298, 3) := dk_184 1 42 (dk_at dksX1_forces_0 9 rfl rfl)
theorem dX1_forces_12 : decode cX1_forces 12 = .ok (.ifCond .eq 30, 3) := dk_153 0 30 (dk_at dksX1_forces_0 12 rfl rfl)
theorem dX1_forces_15 : decode cX1_forces 15 = .ok (.iload_n 3, 1) := dk_29 (dk_at dksX1_forces_0 15 rfl rfl)
theorem dX1_forces_16 : decode cX1_forces 16 = .ok (.iconst 0, 1) := dk_3 (dk_at dksX1_forces_0 16 rfl rfl)
theorem dX1_forces_17 : decode cX1_forces 17 = .ok (.iconst 2, 1) := dk_5 (dk_at dksX1_forces_0 17 rfl rfl)
theorem dX1_forces_18 : decode cX1_forces 18 = .ok (.invokestatic 248, 3) := dk_184 0 248 (dk_at dksX1_forces_0 18 rfl rfl)
theorem dX1_forces_21 : decode cX1_forces 21 = .ok (.ifCond .eq 21, 3) := dk_153 0 21 (dk_at dksX1_forces_0 21 rfl rfl)
theorem dX1_forces_24 : decode cX1_forces 24 = .ok (.aload_n 0, 1) := dk_42 (dk_at dksX1_forces_1 0 rfl rfl)
theorem dX1_forces_25 : decode cX1_forces 25 = .ok (.getfield 90, 3) := dk_180 0 90 (dk_at dksX1_forces_1 1 rfl rfl)
theorem dX1_forces_28 : decode cX1_forces 28 = .ok (.getfield 243, 3) := dk_180 0 243 (dk_at dksX1_forces_1 4 rfl rfl)
theorem dX1_forces_31 : decode cX1_forces 31 = .ok (.iload_n 1, 1) := dk_27 (dk_at dksX1_forces_1 7 rfl rfl)
theorem dX1_forces_32 : decode cX1_forces 32 = .ok (.invokevirtual 336, 3) := dk_182 1 80 (dk_at dksX1_forces_1 8 rfl rfl)
theorem dX1_forces_35 : decode cX1_forces 35 = .ok (.iload_n 2, 1) := dk_28 (dk_at dksX1_forces_1 11 rfl rfl)
theorem dX1_forces_36 : decode cX1_forces 36 = .ok (.invokestatic 329, 3) := dk_184 1 73 (dk_at dksX1_forces_1 12 rfl rfl)
theorem dX1_forces_39 : decode cX1_forces 39 = .ok (.ifCond .ne 6, 3) := dk_154 0 6 (dk_at dksX1_forces_1 15 rfl rfl)
theorem dX1_forces_42 : decode cX1_forces 42 = .ok (.bipush (-2), 2) := dk_16 254 (dk_at dksX1_forces_1 18 rfl rfl)
theorem dX1_forces_44 : decode cX1_forces 44 = .ok (.ireturn, 1) := dk_172 (dk_at dksX1_forces_1 20 rfl rfl)
theorem dX1_forces_45 : decode cX1_forces 45 = .ok (.aload_n 0, 1) := dk_42 (dk_at dksX1_forces_1 21 rfl rfl)
theorem dX1_forces_46 : decode cX1_forces 46 = .ok (.invokevirtual 358, 3) := dk_182 1 102 (dk_at dksX1_forces_2 0 rfl rfl)
theorem dX1_forces_49 : decode cX1_forces 49 = .ok (.aload_n 0, 1) := dk_42 (dk_at dksX1_forces_2 3 rfl rfl)
theorem dX1_forces_50 : decode cX1_forces 50 = .ok (.getfield 120, 3) := dk_180 0 120 (dk_at dksX1_forces_2 4 rfl rfl)
theorem dX1_forces_53 : decode cX1_forces 53 = .ok (.iconst 0, 1) := dk_3 (dk_at dksX1_forces_2 7 rfl rfl)
theorem dX1_forces_54 : decode cX1_forces 54 = .ok (.aload_n 0, 1) := dk_42 (dk_at dksX1_forces_2 8 rfl rfl)
theorem dX1_forces_55 : decode cX1_forces 55 = .ok (.getfield 130, 3) := dk_180 0 130 (dk_at dksX1_forces_2 9 rfl rfl)
theorem dX1_forces_58 : decode cX1_forces 58 = .ok (.iconst 0, 1) := dk_3 (dk_at dksX1_forces_2 12 rfl rfl)
theorem dX1_forces_59 : decode cX1_forces 59 = .ok (.bipush 10, 2) := dk_16 10 (dk_at dksX1_forces_2 13 rfl rfl)
theorem dX1_forces_61 : decode cX1_forces 61 = .ok (.invokestatic 345, 3) := dk_184 1 89 (dk_at dksX1_forces_2 15 rfl rfl)
theorem dX1_forces_64 : decode cX1_forces 64 = .ok (.aload_n 0, 1) := dk_42 (dk_at dksX1_forces_2 18 rfl rfl)
theorem dX1_forces_65 : decode cX1_forces 65 = .ok (.aload_n 0, 1) := dk_42 (dk_at dksX1_forces_2 19 rfl rfl)
theorem dX1_forces_66 : decode cX1_forces 66 = .ok (.getfield 90, 3) := dk_180 0 90 (dk_at dksX1_forces_2 20 rfl rfl)
theorem dX1_forces_69 : decode cX1_forces 69 = .ok (.getfield 243, 3) := dk_180 0 243 (dk_at dksX1_forces_3 0 rfl rfl)
theorem dX1_forces_72 : decode cX1_forces 72 = .ok (.getfield 247, 3) := dk_180 0 247 (dk_at dksX1_forces_3 3 rfl rfl)
theorem dX1_forces_75 : decode cX1_forces 75 = .ok (.putfield 377, 3) := dk_181 1 121 (dk_at dksX1_forces_3 6 rfl rfl)
theorem dX1_forces_78 : decode cX1_forces 78 = .ok (.iconst 0, 1) := dk_3 (dk_at dksX1_forces_3 9 rfl rfl)
theorem dX1_forces_79 : decode cX1_forces 79 = .ok (.istore 4, 2) := dk_54 4 (dk_at dksX1_forces_3 10 rfl rfl)
theorem dX1_forces_81 : decode cX1_forces 81 = .ok (.iload 4, 2) := dk_21 4 (dk_at dksX1_forces_3 12 rfl rfl)
theorem dX1_forces_83 : decode cX1_forces 83 = .ok (.bipush 10, 2) := dk_16 10 (dk_at dksX1_forces_3 14 rfl rfl)
theorem dX1_forces_85 : decode cX1_forces 85 = .ok (.if_icmp .ge 17, 3) := dk_162 0 17 (dk_at dksX1_forces_3 16 rfl rfl)
theorem dX1_forces_88 : decode cX1_forces 88 = .ok (.aload_n 0, 1) := dk_42 (dk_at dksX1_forces_3 19 rfl rfl)
theorem dX1_forces_89 : decode cX1_forces 89 = .ok (.getfield 133, 3) := dk_180 0 133 (dk_at dksX1_forces_3 20 rfl rfl)
theorem dX1_forces_92 : decode cX1_forces 92 = .ok (.iload 4, 2) := dk_21 4 (dk_at dksX1_forces_4 0 rfl rfl)
theorem dX1_forces_94 : decode cX1_forces 94 = .ok (.iconst (-1), 1) := dk_2 (dk_at dksX1_forces_4 2 rfl rfl)
theorem dX1_forces_95 : decode cX1_forces 95 = .ok (.iastore, 1) := dk_79 (dk_at dksX1_forces_4 3 rfl rfl)
theorem dX1_forces_96 : decode cX1_forces 96 = .ok (.iinc 4 1, 3) := dk_132 4 1 (dk_at dksX1_forces_4 4 rfl rfl)
theorem dX1_forces_99 : decode cX1_forces 99 = .ok (.goto (-18), 3) := dk_167 255 238 (dk_at dksX1_forces_4 7 rfl rfl)
theorem dX1_forces_102 : decode cX1_forces 102 = .ok (.aload_n 0, 1) := dk_42 (dk_at dksX1_forces_4 10 rfl rfl)
theorem dX1_forces_103 : decode cX1_forces 103 = .ok (.iload_n 1, 1) := dk_27 (dk_at dksX1_forces_4 11 rfl rfl)
theorem dX1_forces_104 : decode cX1_forces 104 = .ok (.iload_n 2, 1) := dk_28 (dk_at dksX1_forces_4 12 rfl rfl)
theorem dX1_forces_105 : decode cX1_forces 105 = .ok (.iload_n 1, 1) := dk_27 (dk_at dksX1_forces_4 13 rfl rfl)
theorem dX1_forces_106 : decode cX1_forces 106 = .ok (.invokevirtual 380, 3) := dk_182 1 124 (dk_at dksX1_forces_4 14 rfl rfl)
theorem dX1_forces_109 : decode cX1_forces 109 = .ok (.istore 4, 2) := dk_54 4 (dk_at dksX1_forces_4 17 rfl rfl)
theorem dX1_forces_111 : decode cX1_forces 111 = .ok (.iconst 0, 1) := dk_3 (dk_at dksX1_forces_4 19 rfl rfl)
theorem dX1_forces_112 : decode cX1_forces 112 = .ok (.istore 5, 2) := dk_54 5 (dk_at dksX1_forces_4 20 rfl rfl)
theorem dX1_forces_114 : decode cX1_forces 114 = .ok (.aload_n 0, 1) := dk_42 (dk_at dksX1_forces_4 22 rfl rfl)
theorem dX1_forces_115 : decode cX1_forces 115 = .ok (.iconst 0, 1) := dk_3 (dk_at dksX1_forces_4 23 rfl rfl)
theorem dX1_forces_116 : decode cX1_forces 116 = .ok (.putfield 383, 3) := dk_181 1 127 (dk_at dksX1_forces_5 0 rfl rfl)
theorem dX1_forces_119 : decode cX1_forces 119 = .ok (.iload 4, 2) := dk_21 4 (dk_at dksX1_forces_5 3 rfl rfl)
theorem dX1_forces_121 : decode cX1_forces 121 = .ok (.iconst (-1), 1) := dk_2 (dk_at dksX1_forces_5 5 rfl rfl)
theorem dX1_forces_122 : decode cX1_forces 122 = .ok (.if_icmp .ne 142, 3) := dk_160 0 142 (dk_at dksX1_forces_5 6 rfl rfl)
theorem dX1_forces_125 : decode cX1_forces 125 = .ok (.iconst (-1), 1) := dk_2 (dk_at dksX1_forces_5 9 rfl rfl)
theorem dX1_forces_126 : decode cX1_forces 126 = .ok (.istore 6, 2) := dk_54 6 (dk_at dksX1_forces_5 10 rfl rfl)
theorem dX1_forces_128 : decode cX1_forces 128 = .ok (.aload_n 0, 1) := dk_42 (dk_at dksX1_forces_5 12 rfl rfl)
theorem dX1_forces_129 : decode cX1_forces 129 = .ok (.getfield 90, 3) := dk_180 0 90 (dk_at dksX1_forces_5 13 rfl rfl)
theorem dX1_forces_132 : decode cX1_forces 132 = .ok (.getfield 243, 3) := dk_180 0 243 (dk_at dksX1_forces_5 16 rfl rfl)
theorem dX1_forces_135 : decode cX1_forces 135 = .ok (.getfield 247, 3) := dk_180 0 247 (dk_at dksX1_forces_5 19 rfl rfl)
theorem dX1_forces_138 : decode cX1_forces 138 = .ok (.iconst 1, 1) := dk_4 (dk_at dksX1_forces_5 22 rfl rfl)
theorem dX1_forces_139 : decode cX1_forces 139 = .ok (.isub, 1) := dk_100 (dk_at dksX1_forces_5 23 rfl rfl)
theorem dX1_forces_140 : decode cX1_forces 140 = .ok (.istore 7, 2) := dk_54 7 (dk_at dksX1_forces_6 0 rfl rfl)
theorem dX1_forces_142 : decode cX1_forces 142 = .ok (.iload 7, 2) := dk_21 7 (dk_at dksX1_forces_6 2 rfl rfl)
theorem dX1_forces_144 : decode cX1_forces 144 = .ok (.ifCond .lt 44, 3) := dk_155 0 44 (dk_at dksX1_forces_6 4 rfl rfl)
theorem dX1_forces_147 : decode cX1_forces 147 = .ok (.iload 7, 2) := dk_21 7 (dk_at dksX1_forces_6 7 rfl rfl)
theorem dX1_forces_149 : decode cX1_forces 149 = .ok (.iload_n 1, 1) := dk_27 (dk_at dksX1_forces_6 9 rfl rfl)
theorem dX1_forces_150 : decode cX1_forces 150 = .ok (.if_icmp .eq 32, 3) := dk_159 0 32 (dk_at dksX1_forces_6 10 rfl rfl)
theorem dX1_forces_153 : decode cX1_forces 153 = .ok (.aload_n 0, 1) := dk_42 (dk_at dksX1_forces_6 13 rfl rfl)
theorem dX1_forces_154 : decode cX1_forces 154 = .ok (.getfield 133, 3) := dk_180 0 133 (dk_at dksX1_forces_6 14 rfl rfl)
theorem dX1_forces_157 : decode cX1_forces 157 = .ok (.iload 7, 2) := dk_21 7 (dk_at dksX1_forces_6 17 rfl rfl)
theorem dX1_forces_159 : decode cX1_forces 159 = .ok (.iaload, 1) := dk_46 (dk_at dksX1_forces_6 19 rfl rfl)
theorem dX1_forces_160 : decode cX1_forces 160 = .ok (.iconst (-1), 1) := dk_2 (dk_at dksX1_forces_6 20 rfl rfl)
theorem dX1_forces_161 : decode cX1_forces 161 = .ok (.if_icmp .ne 21, 3) := dk_160 0 21 (dk_at dksX1_forces_6 21 rfl rfl)
theorem dX1_forces_164 : decode cX1_forces 164 = .ok (.aload_n 0, 1) := dk_42 (dk_at dksX1_forces_7 0 rfl rfl)
theorem dX1_forces_165 : decode cX1_forces 165 = .ok (.getfield 130, 3) := dk_180 0 130 (dk_at dksX1_forces_7 1 rfl rfl)
theorem dX1_forces_168 : decode cX1_forces 168 = .ok (.iload 7, 2) := dk_21 7 (dk_at dksX1_forces_7 4 rfl rfl)
theorem dX1_forces_170 : decode cX1_forces 170 = .ok (.iaload, 1) := dk_46 (dk_at dksX1_forces_7 6 rfl rfl)
theorem dX1_forces_171 : decode cX1_forces 171 = .ok (.invokestatic 386, 3) := dk_184 1 130 (dk_at dksX1_forces_7 7 rfl rfl)
theorem dX1_forces_174 : decode cX1_forces 174 = .ok (.iconst 1, 1) := dk_4 (dk_at dksX1_forces_7 10 rfl rfl)
theorem dX1_forces_175 : decode cX1_forces 175 = .ok (.if_icmp .ne 7, 3) := dk_160 0 7 (dk_at dksX1_forces_7 11 rfl rfl)
theorem dX1_forces_178 : decode cX1_forces 178 = .ok (.iload 7, 2) := dk_21 7 (dk_at dksX1_forces_7 14 rfl rfl)
theorem dX1_forces_180 : decode cX1_forces 180 = .ok (.istore 6, 2) := dk_54 6 (dk_at dksX1_forces_7 16 rfl rfl)
theorem dX1_forces_182 : decode cX1_forces 182 = .ok (.iinc 7 (-1), 3) := dk_132 7 255 (dk_at dksX1_forces_7 18 rfl rfl)
theorem dX1_forces_185 : decode cX1_forces 185 = .ok (.goto (-43), 3) := dk_167 255 213 (dk_at dksX1_forces_7 21 rfl rfl)
theorem dX1_forces_188 : decode cX1_forces 188 = .ok (.iload 6, 2) := dk_21 6 (dk_at dksX1_forces_8 0 rfl rfl)
theorem dX1_forces_190 : decode cX1_forces 190 = .ok (.iconst (-1), 1) := dk_2 (dk_at dksX1_forces_8 2 rfl rfl)
theorem dX1_forces_191 : decode cX1_forces 191 = .ok (.if_icmp .ne 6, 3) := dk_160 0 6 (dk_at dksX1_forces_8 3 rfl rfl)
theorem dX1_forces_194 : decode cX1_forces 194 = .ok (.goto 70, 3) := dk_167 0 70 (dk_at dksX1_forces_8 6 rfl rfl)
theorem dX1_forces_197 : decode cX1_forces 197 = .ok (.aload_n 0, 1) := dk_42 (dk_at dksX1_forces_8 9 rfl rfl)
theorem dX1_forces_198 : decode cX1_forces 198 = .ok (.getfield 133, 3) := dk_180 0 133 (dk_at dksX1_forces_8 10 rfl rfl)
theorem dX1_forces_201 : decode cX1_forces 201 = .ok (.iload 6, 2) := dk_21 6 (dk_at dksX1_forces_8 13 rfl rfl)
theorem dX1_forces_203 : decode cX1_forces 203 = .ok (.aload_n 0, 1) := dk_42 (dk_at dksX1_forces_8 15 rfl rfl)
theorem dX1_forces_204 : decode cX1_forces 204 = .ok (.getfield 130, 3) := dk_180 0 130 (dk_at dksX1_forces_8 16 rfl rfl)
theorem dX1_forces_207 : decode cX1_forces 207 = .ok (.iload 6, 2) := dk_21 6 (dk_at dksX1_forces_8 19 rfl rfl)
theorem dX1_forces_209 : decode cX1_forces 209 = .ok (.iaload, 1) := dk_46 (dk_at dksX1_forces_8 21 rfl rfl)
theorem dX1_forces_210 : decode cX1_forces 210 = .ok (.invokestatic 391, 3) := dk_184 1 135 (dk_at dksX1_forces_9 0 rfl rfl)
theorem dX1_forces_213 : decode cX1_forces 213 = .ok (.iastore, 1) := dk_79 (dk_at dksX1_forces_9 3 rfl rfl)
theorem dX1_forces_214 : decode cX1_forces 214 = .ok (.iload 5, 2) := dk_21 5 (dk_at dksX1_forces_9 4 rfl rfl)
theorem dX1_forces_216 : decode cX1_forces 216 = .ok (.iload 6, 2) := dk_21 6 (dk_at dksX1_forces_9 6 rfl rfl)
theorem dX1_forces_218 : decode cX1_forces 218 = .ok (.invokestatic 394, 3) := dk_184 1 138 (dk_at dksX1_forces_9 8 rfl rfl)
theorem dX1_forces_221 : decode cX1_forces 221 = .ok (.ior, 1) := dk_128 (dk_at dksX1_forces_9 11 rfl rfl)
theorem dX1_forces_222 : decode cX1_forces 222 = .ok (.istore 5, 2) := dk_54 5 (dk_at dksX1_forces_9 12 rfl rfl)
theorem dX1_forces_224 : decode cX1_forces 224 = .ok (.aload_n 0, 1) := dk_42 (dk_at dksX1_forces_9 14 rfl rfl)
theorem dX1_forces_225 : decode cX1_forces 225 = .ok (.getfield 136, 3) := dk_180 0 136 (dk_at dksX1_forces_9 15 rfl rfl)
theorem dX1_forces_228 : decode cX1_forces 228 = .ok (.aload_n 0, 1) := dk_42 (dk_at dksX1_forces_9 18 rfl rfl)
theorem dX1_forces_229 : decode cX1_forces 229 = .ok (.getfield 383, 3) := dk_180 1 127 (dk_at dksX1_forces_9 19 rfl rfl)
theorem dX1_forces_232 : decode cX1_forces 232 = .ok (.iload 6, 2) := dk_21 6 (dk_at dksX1_forces_9 22 rfl rfl)
theorem dX1_forces_234 : decode cX1_forces 234 = .ok (.iastore, 1) := dk_79 (dk_at dksX1_forces_10 0 rfl rfl)
theorem dX1_forces_235 : decode cX1_forces 235 = .ok (.aload_n 0, 1) := dk_42 (dk_at dksX1_forces_10 1 rfl rfl)
theorem dX1_forces_236 : decode cX1_forces 236 = .ok (.dup, 1) := dk_89 (dk_at dksX1_forces_10 2 rfl rfl)
theorem dX1_forces_237 : decode cX1_forces 237 = .ok (.getfield 383, 3) := dk_180 1 127 (dk_at dksX1_forces_10 3 rfl rfl)
theorem dX1_forces_240 : decode cX1_forces 240 = .ok (.iconst 1, 1) := dk_4 (dk_at dksX1_forces_10 6 rfl rfl)
theorem dX1_forces_241 : decode cX1_forces 241 = .ok (.iadd, 1) := dk_96 (dk_at dksX1_forces_10 7 rfl rfl)
theorem dX1_forces_242 : decode cX1_forces 242 = .ok (.putfield 383, 3) := dk_181 1 127 (dk_at dksX1_forces_10 8 rfl rfl)
theorem dX1_forces_245 : decode cX1_forces 245 = .ok (.aload_n 0, 1) := dk_42 (dk_at dksX1_forces_10 11 rfl rfl)
theorem dX1_forces_246 : decode cX1_forces 246 = .ok (.iload 6, 2) := dk_21 6 (dk_at dksX1_forces_10 12 rfl rfl)
theorem dX1_forces_248 : decode cX1_forces 248 = .ok (.aload_n 0, 1) := dk_42 (dk_at dksX1_forces_10 14 rfl rfl)
theorem dX1_forces_249 : decode cX1_forces 249 = .ok (.getfield 133, 3) := dk_180 0 133 (dk_at dksX1_forces_10 15 rfl rfl)
theorem dX1_forces_252 : decode cX1_forces 252 = .ok (.iload 6, 2) := dk_21 6 (dk_at dksX1_forces_10 18 rfl rfl)
theorem dX1_forces_254 : decode cX1_forces 254 = .ok (.iaload, 1) := dk_46 (dk_at dksX1_forces_10 20 rfl rfl)
theorem dX1_forces_255 : decode cX1_forces 255 = .ok (.iload_n 1, 1) := dk_27 (dk_at dksX1_forces_10 21 rfl rfl)
theorem dX1_forces_256 : decode cX1_forces 256 = .ok (.invokevirtual 380, 3) := dk_182 1 124 (dk_at dksX1_forces_11 0 rfl rfl)
theorem dX1_forces_259 : decode cX1_forces 259 = .ok (.istore 4, 2) := dk_54 4 (dk_at dksX1_forces_11 3 rfl rfl)
theorem dX1_forces_261 : decode cX1_forces 261 = .ok (.goto (-142), 3) := dk_167 255 114 (dk_at dksX1_forces_11 5 rfl rfl)
theorem dX1_forces_264 : decode cX1_forces 264 = .ok (.iload_n 3, 1) := dk_29 (dk_at dksX1_forces_11 8 rfl rfl)
theorem dX1_forces_265 : decode cX1_forces 265 = .ok (.ifCond .ne 11, 3) := dk_154 0 11 (dk_at dksX1_forces_11 9 rfl rfl)
theorem dX1_forces_268 : decode cX1_forces 268 = .ok (.iload 5, 2) := dk_21 5 (dk_at dksX1_forces_11 12 rfl rfl)
theorem dX1_forces_270 : decode cX1_forces 270 = .ok (.invokestatic 386, 3) := dk_184 1 130 (dk_at dksX1_forces_11 14 rfl rfl)
theorem dX1_forces_273 : decode cX1_forces 273 = .ok (.goto 15, 3) := dk_167 0 15 (dk_at dksX1_forces_11 17 rfl rfl)
theorem dX1_forces_276 : decode cX1_forces 276 = .ok (.iload_n 3, 1) := dk_29 (dk_at dksX1_forces_11 20 rfl rfl)
theorem dX1_forces_277 : decode cX1_forces 277 = .ok (.iconst 1, 1) := dk_4 (dk_at dksX1_forces_11 21 rfl rfl)
theorem dX1_forces_278 : decode cX1_forces 278 = .ok (.if_icmp .ne 8, 3) := dk_160 0 8 (dk_at dksX1_forces_12 0 rfl rfl)
theorem dX1_forces_281 : decode cX1_forces 281 = .ok (.iload 5, 2) := dk_21 5 (dk_at dksX1_forces_12 3 rfl rfl)
theorem dX1_forces_283 : decode cX1_forces 283 = .ok (.goto 5, 3) := dk_167 0 5 (dk_at dksX1_forces_12 5 rfl rfl)
theorem dX1_forces_286 : decode cX1_forces 286 = .ok (.iload 4, 2) := dk_21 4 (dk_at dksX1_forces_12 8 rfl rfl)
theorem dX1_forces_288 : decode cX1_forces 288 = .ok (.ireturn, 1) := dk_172 (dk_at dksX1_forces_12 10 rfl rfl)
theorem fp_X1_377 {nm : String} : gFp "BitingDoors" nm 377 [0] 24 .int := by
  intro args s hts hN ci hc
  simp only [List.mem_cons, List.not_mem_nil, or_false] at hc
  subst hc
  exact ⟨RX1, TX1, 46, "BitingDoors", gCl_X1, in_X1, by decide, Or.inl ⟨rfl, Or.inl (hts _ q525)⟩, fun _ h => h, rfl, fun D tys hK => gap_X1 hts hK⟩
theorem fp_X1_383 {nm : String} : gFp "BitingDoors" nm 383 [0] 25 .int := by
  intro args s hts hN ci hc
  simp only [List.mem_cons, List.not_mem_nil, or_false] at hc
  subst hc
  exact ⟨RX1, TX1, 46, "BitingDoors", gCl_X1, in_X1, by decide, Or.inl ⟨rfl, Or.inl (hts _ q526)⟩, fun _ h => h, rfl, fun D tys hK => gap_X1 hts hK⟩
theorem dn_X1_forces : yX1_forces.cls ≠ "java/lang/invoke/MethodHandle" ∧ yX1_forces.cls ≠ "java/lang/invoke/VarHandle" ∧ (parseMethodDescriptor yX1_forces.desc).map (fun d => d.parameters.length) = some 3 := by decide +kernel
noncomputable def M_X1_forces (t : Nat) (p1 : Int32) (p2 : Int32) (p3 : Int32) : Mo Int32 := Mo.bind (chk [0] t) (fun _ => Mo.bind (M_X1_isDoor t p1) (fun v1 => cond v1 (Mo.bind (M_X1_isHanging p2) (fun v2 => cond v2 (Mo.bind (M_X1_isIn p3 0 2) (fun v3 => cond v3 (Mo.bind (gR [0] t 9) (fun v4 => Mo.bind (gR [2] v4 0) (fun v5 => Mo.bind (M_X4_domain v5 p1) (fun v6 => Mo.bind (M_X1_has v6 p2) (fun v7 => cond v7 (Mo.bind (M_X1_domains t) (fun v8 => Mo.bind (gR [0] t 15) (fun v9 => Mo.bind (gR [0] t 21) (fun v10 => Mo.bind (cpyI v9 0 v10 0 10) (fun _ => Mo.bind (gR [0] t 9) (fun v11 => Mo.bind (gR [2] v11 0) (fun v12 => Mo.bind (gI [3] v12 6) (fun v13 => Mo.bind (pF [0] t 24 (.int v13)) (fun _ => Mo.bind (Mo.loop (S := Int32) (E := Unit) (fun s14 => if 10 ≤ s14 then Mo.pure (Sum.inr ()) else Mo.bind (gR [0] t 22) (fun v18 => Mo.bind (astI 0 v18 s14 (-1)) (fun _ => Mo.lv (s14 + 1) (fun v19 => Mo.pure (Sum.inl v19))))) 0) (fun e17 => Mo.bind (M_X1_bitesAway t p1 p2 p1) (fun v20 => Mo.bind (pF [0] t 25 (.int 0)) (fun _ => Mo.bind (Mo.loop (S := Int32 × Int32) (E := Int32 × Int32) (fun s21 => if s21.1 = (-1) then Mo.bind (gR [0] t 9) (fun v25 => Mo.bind (gR [2] v25 0) (fun v26 => Mo.bind (gI [3] v26 6) (fun v27 => Mo.lv (v27 - 1) (fun v28 => Mo.bind (Mo.loop (S := Int32 × Int32) (E := Int32) (fun s29 => if s29.2 < 0 then Mo.pure (Sum.inr s29.1) else Mo.bind ((if s29.2 = p1 then Mo.pure s29.1 else Mo.bind (gR [0] t 22) (fun v35 => Mo.bind (aldI 0 v35 s29.2) (fun v36 => if v36 = (-1) then Mo.bind (gR [0] t 21) (fun v37 => Mo.bind (aldI 0 v37 s29.2) (fun v38 => Mo.bind (M_J10_bitCount v38) (fun v39 => if v39 = 1 then Mo.pure s29.2 else Mo.pure s29.1))) else Mo.pure s29.1)) : Mo (Int32))) (fun u33 => Mo.lv (s29.2 + (-1)) (fun v34 => Mo.pure (Sum.inl (u33, v34))))) ((-1), v28)) (fun e32 => if e32 = (-1) then Mo.pure (Sum.inr (s21.1, s21.2)) else Mo.bind (gR [0] t 22) (fun v40 => Mo.bind (gR [0] t 21) (fun v41 => Mo.bind (aldI 0 v41 e32) (fun v42 => Mo.bind (M_J10_numberOfTrailingZeros v42) (fun v43 => Mo.bind (astI 0 v40 e32 v43) (fun _ => Mo.bind (M_X1_one e32) (fun v44 => Mo.lv (s21.2 ||| v44) (fun v45 => Mo.bind (gR [0] t 23) (fun v46 => Mo.bind (gI [0] t 25) (fun v47 => Mo.bind (astI 0 v46 v47 e32) (fun _ => Mo.bind (gI [0] t 25) (fun v48 => Mo.bind (pF [0] t 25 (.int (v48 + 1))) (fun _ => Mo.bind (gR [0] t 22) (fun v49 => Mo.bind (aldI 0 v49 e32) (fun v50 => Mo.bind (M_X1_bitesAway t e32 v50 p1) (fun v51 => Mo.pure (Sum.inl (v51, v45)))))))))))))))))))))) else Mo.pure (Sum.inr (s21.1, s21.2))) (v20, 0)) (fun e24 => Mo.bind ((if p3 = 0 then Mo.bind (M_J10_bitCount e24.2) (fun v53 => Mo.pure v53) else if p3 = 1 then Mo.pure e24.2 else Mo.pure e24.1 : Mo (Int32))) (fun u52 => Mo.pure u52)))))))))))))) (Mo.pure (-2))))))) (Mo.pure (-2)))) (Mo.pure (-2)))) (Mo.pure (-2))))
set_option maxHeartbeats 4000000 in
theorem ct_X1_forces (G : gG) (t : Nat) (p1 : Int32) (p2 : Int32) (p3 : Int32) : gCt G yX1_forces cX1_forces 8 (some .int) 5 108 [.ref t, .int p1, .int p2, .int p3] (M_X1_forces t p1 p2 p3) (fun x : Int32 => some (.int x)) := by
  refine gCt.of (by decide) (Nat.le_of_ble_eq_true rfl) (fun K r hG X hd ho => ?_)
  subst hG
  have X : gX K cX1_forces 8 "BitingDoors" "forces" (some .int) 5 108 := X
  have hle : gLe (kh1 K) (kh1 K) := gLe.rf
  show V K 8 (kh0 K) 0 [(0, .ref t), (1, .int p1), (2, .int p2), (3, .int p3)] []
  generalize kh0 K = h at hd ⊢
  unfold M_X1_forces at hd
  obtain ⟨-, hd⟩ := chk_some hd
  refine v_aload_n X dX1_forces_0 0 0 rfl rfl ?_
  refine v_iload_n X dX1_forces_1 1 1 rfl rfl ?_
  refine v_callV X hd hle (ct_X1_isDoor _ t p1) gCl_X1 (lw_V q1115 q1117 qs12 q109 q1118) ⟨rfl, dn_X1_isDoor⟩ rfl ⟨by decide, by decide⟩ rfl (Nat.le_of_ble_eq_true rfl) dX1_forces_2 (fun v1 h hd => ?_)
  show V K 8 h 5 [(0, .ref t), (1, .int p1), (2, .int p2), (3, .int p3)] [.int (b2i v1)]
  refine v_ifZ_eq (tgt := 42) X dX1_forces_5 (by decide) (fun q => ?_) (fun q => ?_)
  · have hd := cnd_f q hd
    refine v_bipush (v := (-2)) X dX1_forces_42 (by decide) ?_
    exact v_iret X hd ho dX1_forces_44
  · have hd := cnd_t q hd
    refine v_iload_n X dX1_forces_8 2 2 rfl rfl ?_
    refine v_callS X hd hle (ct_X1_isHanging _ p2) (lw_S q1120 q1121 q109 q1122) dn_X1_isHanging rfl ⟨by decide, by decide⟩ rfl (Nat.le_of_ble_eq_true rfl) dX1_forces_9 (fun v2 h hd => ?_)
    show V K 8 h 12 [(0, .ref t), (1, .int p1), (2, .int p2), (3, .int p3)] [.int (b2i v2)]
    refine v_ifZ_eq (tgt := 42) X dX1_forces_12 (by decide) (fun q => ?_) (fun q => ?_)
    · have hd := cnd_f q hd
      refine v_bipush (v := (-2)) X dX1_forces_42 (by decide) ?_
      exact v_iret X hd ho dX1_forces_44
    · have hd := cnd_t q hd
      refine v_iload_n X dX1_forces_15 3 3 rfl rfl ?_
      refine v_iconst (v := 0) X dX1_forces_16 (by decide) ?_
      refine v_iconst (v := 2) X dX1_forces_17 (by decide) ?_
      refine v_callS X hd hle (ct_X1_isIn _ p3 0 2) (lw_S q1119 q688 q109 q689) dn_X1_isIn rfl ⟨by decide, by decide⟩ rfl (Nat.le_of_ble_eq_true rfl) dX1_forces_18 (fun v3 h hd => ?_)
      show V K 8 h 21 [(0, .ref t), (1, .int p1), (2, .int p2), (3, .int p3)] [.int (b2i v3)]
      refine v_ifZ_eq (tgt := 42) X dX1_forces_21 (by decide) (fun q => ?_) (fun q => ?_)
      · have hd := cnd_f q hd
        refine v_bipush (v := (-2)) X dX1_forces_42 (by decide) ?_
        exact v_iret X hd ho dX1_forces_44
      · have hd := cnd_t q hd
        refine v_aload_n X dX1_forces_24 0 0 rfl rfl ?_
        refine v_getR X hd fl_X1_90 dX1_forces_25 (fun v4 hd => ?_)
        refine v_getR X hd fl_X1_243 dX1_forces_28 (fun v5 hd => ?_)
        refine v_iload_n X dX1_forces_31 1 1 rfl rfl ?_
        refine v_callV X hd hle (ct_X4_domain _ v5 p1) gCl_X4 (lw_V q1176 q1177 q1178 q114 q1179) ⟨rfl, dn_X4_domain⟩ rfl ⟨by decide, by decide⟩ rfl (Nat.le_of_ble_eq_true rfl) dX1_forces_32 (fun v6 h hd => ?_)
        show V K 8 h 35 [(0, .ref t), (1, .int p1), (2, .int p2), (3, .int p3)] [.int v6]
        refine v_iload_n X dX1_forces_35 2 2 rfl rfl ?_
        refine v_callS X hd hle (ct_X1_has _ v6 p2) (lw_S q1163 q899 q109 q900) dn_X1_has rfl ⟨by decide, by decide⟩ rfl (Nat.le_of_ble_eq_true rfl) dX1_forces_36 (fun v7 h hd => ?_)
        show V K 8 h 39 [(0, .ref t), (1, .int p1), (2, .int p2), (3, .int p3)] [.int (b2i v7)]
        refine v_ifZ_ne (tgt := 45) X dX1_forces_39 (by decide) (fun q => ?_) (fun q => ?_)
        · have hd := cnd_t q hd
          refine v_aload_n X dX1_forces_45 0 0 rfl rfl ?_
          refine v_callV X hd hle (ct_X1_domains _ t) gCl_X1 (lw_V q1172 q1174 qs16 q109 q1175) ⟨rfl, dn_X1_domains⟩ rfl ⟨by decide, by decide⟩ rfl (Nat.le_of_ble_eq_true rfl) dX1_forces_46 (fun v8 h hd => ?_)
          show V K 8 h 49 [(0, .ref t), (1, .int p1), (2, .int p2), (3, .int p3)] []
          refine v_aload_n X dX1_forces_49 0 0 rfl rfl ?_
          refine v_getR X hd fl_X1_120 dX1_forces_50 (fun v9 hd => ?_)
          refine v_iconst (v := 0) X dX1_forces_53 (by decide) ?_
          refine v_aload_n X dX1_forces_54 0 0 rfl rfl ?_
          refine v_getR X hd fl_X1_130 dX1_forces_55 (fun v10 hd => ?_)
          refine v_iconst (v := 0) X dX1_forces_58 (by decide) ?_
          refine v_bipush (v := 10) X dX1_forces_59 (by decide) ?_
          refine v_cpyI X hd q1187 q1189 q1188 q131 (Nat.le_of_ble_eq_true rfl) (by decide) (by decide) dX1_forces_61 (fun h hd => ?_)
          refine v_aload_n X dX1_forces_64 0 0 rfl rfl ?_
          refine v_aload_n X dX1_forces_65 0 0 rfl rfl ?_
          refine v_getR X hd fl_X1_90 dX1_forces_66 (fun v11 hd => ?_)
          refine v_getR X hd fl_X1_243 dX1_forces_69 (fun v12 hd => ?_)
          refine v_getI X hd fl_X1_247 dX1_forces_72 (fun v13 hd => ?_)
          refine v_put (v := .int v13) X hd fp_X1_377 rfl rfl dX1_forces_75 (fun h hd => ?_)
          refine v_iconst (v := 0) X dX1_forces_78 (by decide) ?_
          refine v_istore (lv2 := [(4, .int 0), (0, .ref t), (1, .int p1), (2, .int p2), (3, .int p3)]) X dX1_forces_79 (by decide) rfl ?_
          obtain ⟨e17, h1, hd, hd2⟩ := Mo.bind_some hd
          have KX : V K 8 h1 102 [(0, .ref t), (1, .int p1), (2, .int p2), (3, .int p3)] [] := by
            clear hd
            have hd := hd2
            refine v_aload_n X dX1_forces_102 0 0 rfl rfl ?_
            refine v_iload_n X dX1_forces_103 1 1 rfl rfl ?_
            refine v_iload_n X dX1_forces_104 2 2 rfl rfl ?_
            refine v_iload_n X dX1_forces_105 1 1 rfl rfl ?_
            refine v_callV X hd hle (ct_X1_bitesAway _ t p1 p2 p1) gCl_X1 (lw_V q1226 q1228 qs22 q109 q1229) ⟨rfl, dn_X1_bitesAway⟩ rfl ⟨by decide, by decide⟩ rfl (Nat.le_of_ble_eq_true rfl) dX1_forces_106 (fun v20 h hd => ?_)
            show V K 8 h 109 [(0, .ref t), (1, .int p1), (2, .int p2), (3, .int p3)] [.int v20]
            refine v_istore (lv2 := [(4, .int v20), (0, .ref t), (1, .int p1), (2, .int p2), (3, .int p3)]) X dX1_forces_109 (by decide) rfl ?_
            refine v_iconst (v := 0) X dX1_forces_111 (by decide) ?_
            refine v_istore (lv2 := [(5, .int 0), (4, .int v20), (0, .ref t), (1, .int p1), (2, .int p2), (3, .int p3)]) X dX1_forces_112 (by decide) rfl ?_
            refine v_aload_n X dX1_forces_114 2 0 rfl rfl ?_
            refine v_iconst (v := 0) X dX1_forces_115 (by decide) ?_
            refine v_put (v := .int 0) X hd fp_X1_383 rfl rfl dX1_forces_116 (fun h hd => ?_)
            obtain ⟨e24, h1, hd, hd2⟩ := Mo.bind_some hd
            have KX : V K 8 h1 264 [(3, .int p3), (4, .int e24.1), (5, .int e24.2)] [] := by
              clear hd
              have hd := hd2
              refine v_iload_n X dX1_forces_264 0 3 rfl rfl ?_
              obtain ⟨u52, h1, hd, hd2⟩ := Mo.bind_some hd
              have KJ : V K 8 h1 288 [] [.int u52] := by
                clear hd
                have hd := hd2
                exact v_iret X hd ho dX1_forces_288
              have hle := (Mo.le hd2).tr hle
              clear hd2
              refine v_if_ne (tgt := 276) X dX1_forces_265 (by decide) (fun q => ?_) (fun q => ?_)
              · have hd := ite_f q hd
                refine v_iload_n X dX1_forces_276 0 3 rfl rfl ?_
                refine v_iconst (v := 1) X dX1_forces_277 (by decide) ?_
                refine v_icmp_ne (tgt := 286) X dX1_forces_278 (by decide) (fun q => ?_) (fun q => ?_)
                · have hd := ite_f q hd
                  refine v_iload X dX1_forces_286 1 rfl ?_
                  exact v_loc [] rfl (v_at (P := fun (u52 : Int32) h => V K 8 h 288 [] [.int u52]) hd KJ)
                · have hd := ite_t q hd
                  refine v_iload X dX1_forces_281 2 rfl ?_
                  refine v_goto (tgt := 288) X dX1_forces_283 (by decide) ?_
                  exact v_loc [] rfl (v_at (P := fun (u52 : Int32) h => V K 8 h 288 [] [.int u52]) hd KJ)
              · have hd := ite_t q hd
                refine v_iload X dX1_forces_268 2 rfl ?_
                refine v_callS X hd hle (ct_J10_bitCount _ e24.2) (lw_S q1230 q1231 q132 q1232) dn_J10_bitCount rfl ⟨by decide, by decide⟩ rfl (Nat.le_of_ble_eq_true rfl) dX1_forces_270 (fun v53 h hd => ?_)
                show V K 8 h 273 [(3, .int p3), (4, .int e24.1), (5, .int e24.2)] [.int v53]
                refine v_goto (tgt := 288) X dX1_forces_273 (by decide) ?_
                exact v_loc [] rfl (v_at (P := fun (u52 : Int32) h => V K 8 h 288 [] [.int u52]) hd KJ)
            have hle := (Mo.le hd2).tr hle
            clear hd2
            refine v_loc [2, 3, 5, 1, 0] rfl ?_
            refine loop_ind hd (fun (s21 : Int32 × Int32) h => V K 8 h 119 [(0, .ref t), (1, .int p1), (3, .int p3), (4, .int s21.1), (5, .int s21.2)] []) (fun s21 h x h2 hd hle0 ih22 ho23 => ?_)
            have hle := hle0.tr hle
            refine v_iload X dX1_forces_119 3 rfl ?_
            refine v_iconst (v := (-1)) X dX1_forces_121 (by decide) ?_
            refine v_icmp_ne (tgt := 264) X dX1_forces_122 (by decide) (fun q => ?_) (fun q => ?_)
            · have hd := ite_f q hd
              exact v_loc [2, 3, 4] rfl (v_at (P := fun (e24 : Int32 × Int32) h => V K 8 h 264 [(3, .int p3), (4, .int e24.1), (5, .int e24.2)] []) (lp_out hd ho23) KX)
            · have hd := ite_t q hd
              refine v_iconst (v := (-1)) X dX1_forces_125 (by decide) ?_
              refine v_istore (lv2 := [(6, .int (-1)), (0, .ref t), (1, .int p1), (3, .int p3), (4, .int s21.1), (5, .int s21.2)]) X dX1_forces_126 (by decide) rfl ?_
              refine v_aload_n X dX1_forces_128 1 0 rfl rfl ?_
              refine v_getR X hd fl_X1_90 dX1_forces_129 (fun v25 hd => ?_)
              refine v_getR X hd fl_X1_243 dX1_forces_132 (fun v26 hd => ?_)
              refine v_getI X hd fl_X1_247 dX1_forces_135 (fun v27 hd => ?_)
              refine v_iconst (v := 1) X dX1_forces_138 (by decide) ?_
              refine v_isub X dX1_forces_139 ?_
              refine v_lvI hd (fun v28 hd => ?_)
              refine v_istore (lv2 := [(7, .int v28), (6, .int (-1)), (0, .ref t), (1, .int p1), (3, .int p3), (4, .int s21.1), (5, .int s21.2)]) X dX1_forces_140 (by decide) rfl ?_
              obtain ⟨e32, h1, hd, hd2⟩ := Mo.bind_some hd
              have KX : V K 8 h1 188 [(0, .ref t), (1, .int p1), (3, .int p3), (4, .int s21.1), (5, .int s21.2), (6, .int e32)] [] := by
                clear hd
                have hd := hd2
                refine v_iload X dX1_forces_188 5 rfl ?_
                refine v_iconst (v := (-1)) X dX1_forces_190 (by decide) ?_
                refine v_icmp_ne (tgt := 197) X dX1_forces_191 (by decide) (fun q => ?_) (fun q => ?_)
                · have hd := ite_f q hd
                  refine v_aload_n X dX1_forces_197 0 0 rfl rfl ?_
                  refine v_getR X hd fl_X1_133 dX1_forces_198 (fun v40 hd => ?_)
                  refine v_iload X dX1_forces_201 5 rfl ?_
                  refine v_aload_n X dX1_forces_203 0 0 rfl rfl ?_
                  refine v_getR X hd fl_X1_130 dX1_forces_204 (fun v41 hd => ?_)
                  refine v_iload X dX1_forces_207 5 rfl ?_
                  refine v_iald X hd dX1_forces_209 (fun v42 hd => ?_)
                  refine v_callS X hd hle (ct_J10_numberOfTrailingZeros _ v42) (lw_S q1236 q1237 q132 q1238) dn_J10_numberOfTrailingZeros rfl ⟨by decide, by decide⟩ rfl (Nat.le_of_ble_eq_true rfl) dX1_forces_210 (fun v43 h hd => ?_)
                  show V K 8 h 213 [(0, .ref t), (1, .int p1), (3, .int p3), (4, .int s21.1), (5, .int s21.2), (6, .int e32)] [.int v43, .int e32, .ref v40]
                  refine v_iast X hd dX1_forces_213 (fun h hd => ?_)
                  refine v_iload X dX1_forces_214 4 rfl ?_
                  refine v_iload X dX1_forces_216 5 rfl ?_
                  refine v_callS X hd hle (ct_X1_one _ e32) (lw_S q1240 q895 q109 q896) dn_X1_one rfl ⟨by decide, by decide⟩ rfl (Nat.le_of_ble_eq_true rfl) dX1_forces_218 (fun v44 h hd => ?_)
                  show V K 8 h 221 [(0, .ref t), (1, .int p1), (3, .int p3), (4, .int s21.1), (5, .int s21.2), (6, .int e32)] [.int v44, .int s21.2]
                  refine v_ior X dX1_forces_221 ?_
                  refine v_lvI hd (fun v45 hd => ?_)
                  refine v_istore (lv2 := [(5, .int v45), (0, .ref t), (1, .int p1), (3, .int p3), (4, .int s21.1), (6, .int e32)]) X dX1_forces_222 (by decide) rfl ?_
                  refine v_aload_n X dX1_forces_224 1 0 rfl rfl ?_
                  refine v_getR X hd fl_X1_136 dX1_forces_225 (fun v46 hd => ?_)
                  refine v_aload_n X dX1_forces_228 1 0 rfl rfl ?_
                  refine v_getI X hd fl_X1_383 dX1_forces_229 (fun v47 hd => ?_)
                  refine v_iload X dX1_forces_232 5 rfl ?_
                  refine v_iast X hd dX1_forces_234 (fun h hd => ?_)
                  refine v_aload_n X dX1_forces_235 1 0 rfl rfl ?_
                  refine v_dup X dX1_forces_236 rfl ?_
                  refine v_getI X hd fl_X1_383 dX1_forces_237 (fun v48 hd => ?_)
                  refine v_iconst (v := 1) X dX1_forces_240 (by decide) ?_
                  refine v_iadd X dX1_forces_241 ?_
                  refine v_put (v := .int (v48 + 1)) X hd fp_X1_383 rfl rfl dX1_forces_242 (fun h hd => ?_)
                  refine v_aload_n X dX1_forces_245 1 0 rfl rfl ?_
                  refine v_iload X dX1_forces_246 5 rfl ?_
                  refine v_aload_n X dX1_forces_248 1 0 rfl rfl ?_
                  refine v_getR X hd fl_X1_133 dX1_forces_249 (fun v49 hd => ?_)
                  refine v_iload X dX1_forces_252 5 rfl ?_
                  refine v_iald X hd dX1_forces_254 (fun v50 hd => ?_)
                  refine v_iload_n X dX1_forces_255 2 1 rfl rfl ?_
                  refine v_callV X hd hle (ct_X1_bitesAway _ t e32 v50 p1) gCl_X1 (lw_V q1226 q1228 qs22 q109 q1229) ⟨rfl, dn_X1_bitesAway⟩ rfl ⟨by decide, by decide⟩ rfl (Nat.le_of_ble_eq_true rfl) dX1_forces_256 (fun v51 h hd => ?_)
                  show V K 8 h 259 [(5, .int v45), (0, .ref t), (1, .int p1), (3, .int p3), (4, .int s21.1), (6, .int e32)] [.int v51]
                  refine v_istore (lv2 := [(4, .int v51), (5, .int v45), (0, .ref t), (1, .int p1), (3, .int p3), (6, .int e32)]) X dX1_forces_259 (by decide) rfl ?_
                  refine v_goto (tgt := 119) X dX1_forces_261 (by decide) ?_
                  exact v_loc [2, 3, 4, 0, 1] rfl (lp_in (P := fun (s21 : Int32 × Int32) h => V K 8 h 119 [(0, .ref t), (1, .int p1), (3, .int p3), (4, .int s21.1), (5, .int s21.2)] []) hd ih22)
                · have hd := ite_t q hd
                  refine v_goto (tgt := 264) X dX1_forces_194 (by decide) ?_
                  exact v_loc [2, 3, 4] rfl (v_at (P := fun (e24 : Int32 × Int32) h => V K 8 h 264 [(3, .int p3), (4, .int e24.1), (5, .int e24.2)] []) (lp_out hd ho23) KX)
              have hle := (Mo.le hd2).tr hle
              clear hd2
              refine v_loc [2, 3, 4, 5, 6, 1, 0] rfl ?_
              refine loop_ind hd (fun (s29 : Int32 × Int32) h => V K 8 h 142 [(0, .ref t), (1, .int p1), (3, .int p3), (4, .int s21.1), (5, .int s21.2), (6, .int s29.1), (7, .int s29.2)] []) (fun s29 h x h2 hd hle0 ih30 ho31 => ?_)
              have hle := hle0.tr hle
              refine v_iload X dX1_forces_142 6 rfl ?_
              refine v_if_lt (tgt := 188) X dX1_forces_144 (by decide) (fun q => ?_) (fun q => ?_)
              · have hd := ite_t q hd
                exact v_loc [0, 1, 2, 3, 4, 5] rfl (v_at (P := fun (e32 : Int32) h => V K 8 h 188 [(0, .ref t), (1, .int p1), (3, .int p3), (4, .int s21.1), (5, .int s21.2), (6, .int e32)] []) (lp_out hd ho31) KX)
              · have hd := ite_f q hd
                refine v_iload X dX1_forces_147 6 rfl ?_
                refine v_iload_n X dX1_forces_149 1 1 rfl rfl ?_
                obtain ⟨u33, h1, hd, hd2⟩ := Mo.bind_some hd
                have KJ : V K 8 h1 182 [(0, .ref t), (1, .int p1), (3, .int p3), (4, .int s21.1), (5, .int s21.2), (6, .int u33), (7, .int s29.2)] [] := by
                  clear hd
                  have hd := hd2
                  refine v_iincL (lv2 := fun v34 => [(7, .int v34), (0, .ref t), (1, .int p1), (3, .int p3), (4, .int s21.1), (5, .int s21.2), (6, .int u33)]) X hd dX1_forces_182 6 rfl (by decide : Int32.ofInt (-1) = (-1)) (by decide) (fun v34 => rfl) (fun v34 hd => ?_)
                  refine v_goto (tgt := 142) X dX1_forces_185 (by decide) ?_
                  exact v_loc [1, 2, 3, 4, 5, 6, 0] rfl (lp_in (P := fun (s29 : Int32 × Int32) h => V K 8 h 142 [(0, .ref t), (1, .int p1), (3, .int p3), (4, .int s21.1), (5, .int s21.2), (6, .int s29.1), (7, .int s29.2)] []) hd ih30)
                have hle := (Mo.le hd2).tr hle
                clear hd2
                refine v_icmp_eq (tgt := 182) X dX1_forces_150 (by decide) (fun q => ?_) (fun q => ?_)
                · have hd := ite_t q hd
                  exact v_loc [0, 1, 2, 3, 4, 5, 6] rfl (v_at (P := fun (u33 : Int32) h => V K 8 h 182 [(0, .ref t), (1, .int p1), (3, .int p3), (4, .int s21.1), (5, .int s21.2), (6, .int u33), (7, .int s29.2)] []) hd KJ)
                · have hd := ite_f q hd
                  refine v_aload_n X dX1_forces_153 0 0 rfl rfl ?_
                  refine v_getR X hd fl_X1_133 dX1_forces_154 (fun v35 hd => ?_)
                  refine v_iload X dX1_forces_157 6 rfl ?_
                  refine v_iald X hd dX1_forces_159 (fun v36 hd => ?_)
                  refine v_iconst (v := (-1)) X dX1_forces_160 (by decide) ?_
                  refine v_icmp_ne (tgt := 182) X dX1_forces_161 (by decide) (fun q => ?_) (fun q => ?_)
                  · have hd := ite_f q hd
                    exact v_loc [0, 1, 2, 3, 4, 5, 6] rfl (v_at (P := fun (u33 : Int32) h => V K 8 h 182 [(0, .ref t), (1, .int p1), (3, .int p3), (4, .int s21.1), (5, .int s21.2), (6, .int u33), (7, .int s29.2)] []) hd KJ)
                  · have hd := ite_t q hd
                    refine v_aload_n X dX1_forces_164 0 0 rfl rfl ?_
                    refine v_getR X hd fl_X1_130 dX1_forces_165 (fun v37 hd => ?_)
                    refine v_iload X dX1_forces_168 6 rfl ?_
                    refine v_iald X hd dX1_forces_170 (fun v38 hd => ?_)
                    refine v_callS X hd hle (ct_J10_bitCount _ v38) (lw_S q1230 q1231 q132 q1232) dn_J10_bitCount rfl ⟨by decide, by decide⟩ rfl (Nat.le_of_ble_eq_true rfl) dX1_forces_171 (fun v39 h hd => ?_)
                    show V K 8 h 174 [(0, .ref t), (1, .int p1), (3, .int p3), (4, .int s21.1), (5, .int s21.2), (6, .int s29.1), (7, .int s29.2)] [.int v39]
                    refine v_iconst (v := 1) X dX1_forces_174 (by decide) ?_
                    refine v_icmp_ne (tgt := 182) X dX1_forces_175 (by decide) (fun q => ?_) (fun q => ?_)
                    · have hd := ite_f q hd
                      exact v_loc [0, 1, 2, 3, 4, 5, 6] rfl (v_at (P := fun (u33 : Int32) h => V K 8 h 182 [(0, .ref t), (1, .int p1), (3, .int p3), (4, .int s21.1), (5, .int s21.2), (6, .int u33), (7, .int s29.2)] []) hd KJ)
                    · have hd := ite_t q hd
                      refine v_iload X dX1_forces_178 6 rfl ?_
                      refine v_istore (lv2 := [(6, .int s29.2), (0, .ref t), (1, .int p1), (3, .int p3), (4, .int s21.1), (5, .int s21.2), (7, .int s29.2)]) X dX1_forces_180 (by decide) rfl ?_
                      exact v_loc [1, 2, 3, 4, 5, 0, 6] rfl (v_at (P := fun (u33 : Int32) h => V K 8 h 182 [(0, .ref t), (1, .int p1), (3, .int p3), (4, .int s21.1), (5, .int s21.2), (6, .int u33), (7, .int s29.2)] []) hd KJ)
          have hle := (Mo.le hd2).tr hle
          clear hd2
          refine v_loc [1, 2, 3, 4, 0] rfl ?_
          refine loop_ind hd (fun (s14 : Int32) h => V K 8 h 81 [(0, .ref t), (1, .int p1), (2, .int p2), (3, .int p3), (4, .int s14)] []) (fun s14 h x h2 hd hle0 ih15 ho16 => ?_)
          have hle := hle0.tr hle
          refine v_iload X dX1_forces_81 4 rfl ?_
          refine v_bipush (v := 10) X dX1_forces_83 (by decide) ?_
          refine v_icmp_ge (tgt := 102) X dX1_forces_85 (by decide) (fun q => ?_) (fun q => ?_)
          · have hd := ite_t q hd
            exact v_loc [0, 1, 2, 3] rfl (v_at (P := fun (e17 : Unit) h => V K 8 h 102 [(0, .ref t), (1, .int p1), (2, .int p2), (3, .int p3)] []) (lp_out hd ho16) KX)
          · have hd := ite_f q hd
            refine v_aload_n X dX1_forces_88 0 0 rfl rfl ?_
            refine v_getR X hd fl_X1_133 dX1_forces_89 (fun v18 hd => ?_)
            refine v_iload X dX1_forces_92 4 rfl ?_
            refine v_iconst (v := (-1)) X dX1_forces_94 (by decide) ?_
            refine v_iast X hd dX1_forces_95 (fun h hd => ?_)
            refine v_iincL (lv2 := fun v19 => [(4, .int v19), (0, .ref t), (1, .int p1), (2, .int p2), (3, .int p3)]) X hd dX1_forces_96 4 rfl (by decide : Int32.ofInt 1 = 1) (by decide) (fun v19 => rfl) (fun v19 hd => ?_)
            refine v_goto (tgt := 81) X dX1_forces_99 (by decide) ?_
            exact v_loc [1, 2, 3, 4, 0] rfl (lp_in (P := fun (s14 : Int32) h => V K 8 h 81 [(0, .ref t), (1, .int p1), (2, .int p2), (3, .int p3), (4, .int s14)] []) hd ih15)
        · have hd := cnd_f q hd
          refine v_bipush (v := (-2)) X dX1_forces_42 (by decide) ?_
          exact v_iret X hd ho dX1_forces_44
def dkwX16_act_0 : List UInt8 := [7, 5, 42, 180, 0, 21, 104, 96, 172]
abbrev dktX16_act_0 : List UInt8 := dkwX16_act_0 ++ []
theorem dksX16_act_0 : cX16_act.data.toList.drop 0 = dktX16_act_0 := by decide +kernel
theorem dX16_act_0 : decode cX16_act 0 = .ok (.iconst 4, 1) := dk_7 (dk_at dksX16_act_0 0 rfl rfl)
theorem dX16_act_1 : decode cX16_act 1 = .ok (.iconst 2, 1) := dk_5 (dk_at dksX16_act_0 1 rfl rfl)
theorem dX16_act_2 : decode cX16_act 2 = .ok (.aload_n 0, 1) := dk_42 (dk_at dksX16_act_0 2 rfl rfl)
theorem dX16_act_3 : decode cX16_act 3 = .ok (.getfield 21, 3) := dk_180 0 21 (dk_at dksX16_act_0 3 rfl rfl)
theorem dX16_act_6 : decode cX16_act 6 = .ok (.imul, 1) := dk_104 (dk_at dksX16_act_0 6 rfl rfl)
theorem dX16_act_7 : decode cX16_act 7 = .ok (.iadd, 1) := dk_96 (dk_at dksX16_act_0 7 rfl rfl)
theorem dX16_act_8 : decode cX16_act 8 = .ok (.ireturn, 1) := dk_172 (dk_at dksX16_act_0 8 rfl rfl)
theorem fl_X16_21 : gFl "BitingDoors$Open" 21 [12] 0 := by
  intro args s hts hN ci hc
  simp only [List.mem_cons, List.not_mem_nil, or_false] at hc
  subst hc
  exact ⟨RX16, TX16, 1, "BitingDoors$Open", gCl_X16, in_X16, by decide, Or.inl (hts _ q1078), u_same (hts _ q1079)⟩
theorem dn_X16_act : yX16_act.cls ≠ "java/lang/invoke/MethodHandle" ∧ yX16_act.cls ≠ "java/lang/invoke/VarHandle" ∧ (parseMethodDescriptor yX16_act.desc).map (fun d => d.parameters.length) = some 0 := by decide +kernel
noncomputable def M_X16_act (t : Nat) : Mo Int32 := Mo.bind (chk [12] t) (fun _ => Mo.bind (gI [12] t 0) (fun v1 => Mo.pure (4 + (2 * v1))))
set_option maxHeartbeats 4000000 in
theorem ct_X16_act (G : gG) (t : Nat) : gCt G yX16_act cX16_act 1 (some .int) 0 0 [.ref t] (M_X16_act t) (fun x : Int32 => some (.int x)) := by
  refine gCt.of (by decide) (Nat.le_of_ble_eq_true rfl) (fun K r hG X hd ho => ?_)
  subst hG
  have X : gX K cX16_act 1 "BitingDoors$Open" "act" (some .int) 0 0 := X
  have hle : gLe (kh1 K) (kh1 K) := gLe.rf
  show V K 1 (kh0 K) 0 [(0, .ref t)] []
  generalize kh0 K = h at hd ⊢
  unfold M_X16_act at hd
  obtain ⟨-, hd⟩ := chk_some hd
  refine v_iconst (v := 4) X dX16_act_0 (by decide) ?_
  refine v_iconst (v := 2) X dX16_act_1 (by decide) ?_
  refine v_aload_n X dX16_act_2 0 0 rfl rfl ?_
  refine v_getI X hd fl_X16_21 dX16_act_3 (fun v1 hd => ?_)
  refine v_imul X dX16_act_6 ?_
  refine v_iadd X dX16_act_7 ?_
  exact v_iret X hd ho dX16_act_8
def dkwX1_place_0 : List UInt8 := [42, 180, 0, 90, 180, 1, 162, 172]
abbrev dktX1_place_0 : List UInt8 := dkwX1_place_0 ++ []
theorem dksX1_place_0 : cX1_place.data.toList.drop 0 = dktX1_place_0 := by decide +kernel
theorem dX1_place_0 : decode cX1_place 0 = .ok (.aload_n 0, 1) := dk_42 (dk_at dksX1_place_0 0 rfl rfl)
theorem dX1_place_1 : decode cX1_place 1 = .ok (.getfield 90, 3) := dk_180 0 90 (dk_at dksX1_place_0 1 rfl rfl)
theorem dX1_place_4 : decode cX1_place 4 = .ok (.getfield 418, 3) := dk_180 1 162 (dk_at dksX1_place_0 4 rfl rfl)
theorem dX1_place_7 : decode cX1_place 7 = .ok (.ireturn, 1) := dk_172 (dk_at dksX1_place_0 7 rfl rfl)
theorem dn_X1_place : yX1_place.cls ≠ "java/lang/invoke/MethodHandle" ∧ yX1_place.cls ≠ "java/lang/invoke/VarHandle" ∧ (parseMethodDescriptor yX1_place.desc).map (fun d => d.parameters.length) = some 0 := by decide +kernel
noncomputable def M_X1_place (t : Nat) : Mo Int32 := Mo.bind (chk [0] t) (fun _ => Mo.bind (gR [0] t 9) (fun v1 => Mo.bind (gI [2] v1 3) (fun v2 => Mo.pure v2)))
set_option maxHeartbeats 4000000 in
theorem ct_X1_place (G : gG) (t : Nat) : gCt G yX1_place cX1_place 1 (some .int) 0 0 [.ref t] (M_X1_place t) (fun x : Int32 => some (.int x)) := by
  refine gCt.of (by decide) (Nat.le_of_ble_eq_true rfl) (fun K r hG X hd ho => ?_)
  subst hG
  have X : gX K cX1_place 1 "BitingDoors" "place" (some .int) 0 0 := X
  have hle : gLe (kh1 K) (kh1 K) := gLe.rf
  show V K 1 (kh0 K) 0 [(0, .ref t)] []
  generalize kh0 K = h at hd ⊢
  unfold M_X1_place at hd
  obtain ⟨-, hd⟩ := chk_some hd
  refine v_aload_n X dX1_place_0 0 0 rfl rfl ?_
  refine v_getR X hd fl_X1_90 dX1_place_1 (fun v1 hd => ?_)
  refine v_getI X hd fl_X1_418 dX1_place_4 (fun v2 hd => ?_)
  exact v_iret X hd ho dX1_place_7
def dkwX16_goal_1 : List UInt8 := [182, 0, 31, 153, 0, 7, 5, 167, 0, 4, 4, 172]
abbrev dktX16_goal_1 : List UInt8 := dkwX16_goal_1 ++ []
def dkwX16_goal_0 : List UInt8 := [43, 180, 0, 9, 180, 0, 15, 42, 180, 0, 21, 50, 43, 180, 0, 27, 42, 180, 0, 21, 46, 5]
abbrev dktX16_goal_0 : List UInt8 := dkwX16_goal_0 ++ dktX16_goal_1
theorem dksX16_goal_0 : cX16_goal.data.toList.drop 0 = dktX16_goal_0 := by decide +kernel
theorem dksX16_goal_1 : cX16_goal.data.toList.drop 22 = dktX16_goal_1 := dk_seg dksX16_goal_0 22 rfl rfl
theorem dX16_goal_0 : decode cX16_goal 0 = .ok (.aload_n 1, 1) := dk_43 (dk_at dksX16_goal_0 0 rfl rfl)
theorem dX16_goal_1 : decode cX16_goal 1 = .ok (.getfield 9, 3) := dk_180 0 9 (dk_at dksX16_goal_0 1 rfl rfl)
theorem dX16_goal_4 : decode cX16_goal 4 = .ok (.getfield 15, 3) := dk_180 0 15 (dk_at dksX16_goal_0 4 rfl rfl)
theorem dX16_goal_7 : decode cX16_goal 7 = .ok (.aload_n 0, 1) := dk_42 (dk_at dksX16_goal_0 7 rfl rfl)
theorem dX16_goal_8 : decode cX16_goal 8 = .ok (.getfield 21, 3) := dk_180 0 21 (dk_at dksX16_goal_0 8 rfl rfl)
theorem dX16_goal_11 : decode cX16_goal 11 = .ok (.aaload, 1) := dk_50 (dk_at dksX16_goal_0 11 rfl rfl)
theorem dX16_goal_12 : decode cX16_goal 12 = .ok (.aload_n 1, 1) := dk_43 (dk_at dksX16_goal_0 12 rfl rfl)
theorem dX16_goal_13 : decode cX16_goal 13 = .ok (.getfield 27, 3) := dk_180 0 27 (dk_at dksX16_goal_0 13 rfl rfl)
theorem dX16_goal_16 : decode cX16_goal 16 = .ok (.aload_n 0, 1) := dk_42 (dk_at dksX16_goal_0 16 rfl rfl)
theorem dX16_goal_17 : decode cX16_goal 17 = .ok (.getfield 21, 3) := dk_180 0 21 (dk_at dksX16_goal_0 17 rfl rfl)
theorem dX16_goal_20 : decode cX16_goal 20 = .ok (.iaload, 1) := dk_46 (dk_at dksX16_goal_0 20 rfl rfl)
theorem dX16_goal_21 : decode cX16_goal 21 = .ok (.iconst 2, 1) := dk_5 (dk_at dksX16_goal_0 21 rfl rfl)
theorem dX16_goal_22 : decode cX16_goal 22 = .ok (.invokevirtual 31, 3) := dk_182 0 31 (dk_at dksX16_goal_1 0 rfl rfl)
theorem dX16_goal_25 : decode cX16_goal 25 = .ok (.ifCond .eq 7, 3) := dk_153 0 7 (dk_at dksX16_goal_1 3 rfl rfl)
theorem dX16_goal_28 : decode cX16_goal 28 = .ok (.iconst 2, 1) := dk_5 (dk_at dksX16_goal_1 6 rfl rfl)
theorem dX16_goal_29 : decode cX16_goal 29 = .ok (.goto 4, 3) := dk_167 0 4 (dk_at dksX16_goal_1 7 rfl rfl)
theorem dX16_goal_32 : decode cX16_goal 32 = .ok (.iconst 1, 1) := dk_4 (dk_at dksX16_goal_1 10 rfl rfl)
theorem dX16_goal_33 : decode cX16_goal 33 = .ok (.ireturn, 1) := dk_172 (dk_at dksX16_goal_1 11 rfl rfl)
theorem fl_X16_15 : gFl "BitingDoors$Open" 15 [3] 2 := by
  intro args s hts hN ci hc
  simp only [List.mem_cons, List.not_mem_nil, or_false] at hc
  subst hc
  exact ⟨RX4, TX4, 9, "BitingDoors$House", gCl_X4, in_X4, by decide, Or.inr ⟨"BitingDoors", va_Nw.use rfl (hN.1 ("BitingDoors$Open", 15, "BitingDoors$House", "doors", "[LBitingDoors$Door;", "BitingDoors") (List.mem_of_getElem? (i := 67) rfl))⟩, fun _ h => h⟩
theorem fl_X16_27 : gFl "BitingDoors$Open" 27 [2] 1 := by
  intro args s hts hN ci hc
  simp only [List.mem_cons, List.not_mem_nil, or_false] at hc
  subst hc
  exact ⟨RX3, TX3, 6, "BitingDoors$Walker", gCl_X3, in_X3, by decide, Or.inr ⟨"BitingDoors", va_Nw.use rfl (hN.1 ("BitingDoors$Open", 27, "BitingDoors$Walker", "hanging", "[I", "BitingDoors") (List.mem_of_getElem? (i := 69) rfl))⟩, fun _ h => h⟩
theorem fl_X16_9 : gFl "BitingDoors$Open" 9 [2] 0 := by
  intro args s hts hN ci hc
  simp only [List.mem_cons, List.not_mem_nil, or_false] at hc
  subst hc
  exact ⟨RX3, TX3, 6, "BitingDoors$Walker", gCl_X3, in_X3, by decide, Or.inr ⟨"BitingDoors", va_Nw.use rfl (hN.1 ("BitingDoors$Open", 9, "BitingDoors$Walker", "house", "LBitingDoors$House;", "BitingDoors") (List.mem_of_getElem? (i := 68) rfl))⟩, fun _ h => h⟩
theorem dn_X16_goal : yX16_goal.cls ≠ "java/lang/invoke/MethodHandle" ∧ yX16_goal.cls ≠ "java/lang/invoke/VarHandle" ∧ (parseMethodDescriptor yX16_goal.desc).map (fun d => d.parameters.length) = some 1 := by decide +kernel
noncomputable def M_X16_goal (t : Nat) (p1 : Nat) : Mo Int32 := Mo.bind (chk [12] t) (fun _ => Mo.bind (gR [2] p1 0) (fun v1 => Mo.bind (gR [3] v1 2) (fun v2 => Mo.bind (gI [12] t 0) (fun v3 => Mo.bind (aldR 5 v2 v3) (fun v4 => Mo.bind (gR [2] p1 1) (fun v5 => Mo.bind (gI [12] t 0) (fun v6 => Mo.bind (aldI 0 v5 v6) (fun v7 => Mo.bind (M_X11_can v4 v7 2) (fun v8 => Mo.bind ((cond v8 (Mo.pure 2) (Mo.pure 1) : Mo (Int32))) (fun u9 => Mo.pure u9))))))))))
set_option maxHeartbeats 4000000 in
theorem ct_X16_goal (G : gG) (t : Nat) (p1 : Nat) : gCt G yX16_goal cX16_goal 2 (some .int) 2 43 [.ref t, .ref p1] (M_X16_goal t p1) (fun x : Int32 => some (.int x)) := by
  refine gCt.of (by decide) (Nat.le_of_ble_eq_true rfl) (fun K r hG X hd ho => ?_)
  subst hG
  have X : gX K cX16_goal 2 "BitingDoors$Open" "goal" (some .int) 2 43 := X
  have hle : gLe (kh1 K) (kh1 K) := gLe.rf
  show V K 2 (kh0 K) 0 [(0, .ref t), (1, .ref p1)] []
  generalize kh0 K = h at hd ⊢
  unfold M_X16_goal at hd
  obtain ⟨-, hd⟩ := chk_some hd
  refine v_aload_n X dX16_goal_0 1 1 rfl rfl ?_
  refine v_getR X hd fl_X16_9 dX16_goal_1 (fun v1 hd => ?_)
  refine v_getR X hd fl_X16_15 dX16_goal_4 (fun v2 hd => ?_)
  refine v_aload_n X dX16_goal_7 0 0 rfl rfl ?_
  refine v_getI X hd fl_X16_21 dX16_goal_8 (fun v3 hd => ?_)
  refine v_aldR X hd 5 rfl (by decide) (by decide) dX16_goal_11 (fun v4 hd => ?_)
  refine v_aload_n X dX16_goal_12 1 1 rfl rfl ?_
  refine v_getR X hd fl_X16_27 dX16_goal_13 (fun v5 hd => ?_)
  refine v_aload_n X dX16_goal_16 0 0 rfl rfl ?_
  refine v_getI X hd fl_X16_21 dX16_goal_17 (fun v6 hd => ?_)
  refine v_iald X hd dX16_goal_20 (fun v7 hd => ?_)
  refine v_iconst (v := 2) X dX16_goal_21 (by decide) ?_
  refine v_callV X hd hle (ct_X11_can _ v4 v7 2) gCl_X11 (lw_V q1360 q1142 q1143 q125 q1144) ⟨rfl, dn_X11_can⟩ rfl ⟨by decide, by decide⟩ rfl (Nat.le_of_ble_eq_true rfl) dX16_goal_22 (fun v8 h hd => ?_)
  show V K 2 h 25 [(0, .ref t), (1, .ref p1)] [.int (b2i v8)]
  obtain ⟨u9, h1, hd, hd2⟩ := Mo.bind_some hd
  have KJ : V K 2 h1 33 [] [.int u9] := by
    clear hd
    have hd := hd2
    exact v_iret X hd ho dX16_goal_33
  have hle := (Mo.le hd2).tr hle
  clear hd2
  refine v_ifZ_eq (tgt := 32) X dX16_goal_25 (by decide) (fun q => ?_) (fun q => ?_)
  · have hd := cnd_f q hd
    refine v_iconst (v := 1) X dX16_goal_32 (by decide) ?_
    exact v_loc [] rfl (v_at (P := fun (u9 : Int32) h => V K 2 h 33 [] [.int u9]) hd KJ)
  · have hd := cnd_t q hd
    refine v_iconst (v := 2) X dX16_goal_28 (by decide) ?_
    refine v_goto (tgt := 33) X dX16_goal_29 (by decide) ?_
    exact v_loc [] rfl (v_at (P := fun (u9 : Int32) h => V K 2 h 33 [] [.int u9]) hd KJ)
def dkwX1_pairs_3 : List UInt8 := [61, 132, 4, 1, 167, 255, 204, 132, 3, 1, 167, 255, 179, 28, 172]
abbrev dktX1_pairs_3 : List UInt8 := dkwX1_pairs_3 ++ []
def dkwX1_pairs_2 : List UInt8 := [43, 29, 46, 21, 4, 182, 1, 69, 43, 21, 4, 46, 184, 1, 73, 153, 0, 7, 4, 167, 0, 4, 3, 96]
abbrev dktX1_pairs_2 : List UInt8 := dkwX1_pairs_2 ++ dktX1_pairs_3
def dkwX1_pairs_1 : List UInt8 := [21, 4, 42, 180, 0, 90, 180, 0, 243, 180, 0, 247, 162, 0, 43, 28, 42, 180, 0, 90, 180, 0, 243, 29]
abbrev dktX1_pairs_1 : List UInt8 := dkwX1_pairs_1 ++ dktX1_pairs_2
def dkwX1_pairs_0 : List UInt8 := [3, 61, 3, 62, 29, 42, 180, 0, 90, 180, 0, 243, 180, 0, 247, 162, 0, 69, 29, 4, 96, 54, 4]
abbrev dktX1_pairs_0 : List UInt8 := dkwX1_pairs_0 ++ dktX1_pairs_1
theorem dksX1_pairs_0 : cX1_pairs.data.toList.drop 0 = dktX1_pairs_0 := by decide +kernel
theorem dksX1_pairs_1 : cX1_pairs.data.toList.drop 23 = dktX1_pairs_1 := dk_seg dksX1_pairs_0 23 rfl rfl
theorem dksX1_pairs_2 : cX1_pairs.data.toList.drop 47 = dktX1_pairs_2 := dk_seg dksX1_pairs_1 24 rfl rfl
theorem dksX1_pairs_3 : cX1_pairs.data.toList.drop 71 = dktX1_pairs_3 := dk_seg dksX1_pairs_2 24 rfl rfl
theorem dX1_pairs_0 : decode cX1_pairs 0 = .ok (.iconst 0, 1) := dk_3 (dk_at dksX1_pairs_0 0 rfl rfl)
theorem dX1_pairs_1 : decode cX1_pairs 1 = .ok (.istore_n 2, 1) := dk_61 (dk_at dksX1_pairs_0 1 rfl rfl)
theorem dX1_pairs_2 : decode cX1_pairs 2 = .ok (.iconst 0, 1) := dk_3 (dk_at dksX1_pairs_0 2 rfl rfl)
theorem dX1_pairs_3 : decode cX1_pairs 3 = .ok (.istore_n 3, 1) := dk_62 (dk_at dksX1_pairs_0 3 rfl rfl)
theorem dX1_pairs_4 : decode cX1_pairs 4 = .ok (.iload_n 3, 1) := dk_29 (dk_at dksX1_pairs_0 4 rfl rfl)
theorem dX1_pairs_5 : decode cX1_pairs 5 = .ok (.aload_n 0, 1) := dk_42 (dk_at dksX1_pairs_0 5 rfl rfl)
theorem dX1_pairs_6 : decode cX1_pairs 6 = .ok (.getfield 90, 3) := dk_180 0 90 (dk_at dksX1_pairs_0 6 rfl rfl)
theorem dX1_pairs_9 : decode cX1_pairs 9 = .ok (.getfield 243, 3) := dk_180 0 243 (dk_at dksX1_pairs_0 9 rfl rfl)
theorem dX1_pairs_12 : decode cX1_pairs 12 = .ok (.getfield 247, 3) := dk_180 0 247 (dk_at dksX1_pairs_0 12 rfl rfl)
theorem dX1_pairs_15 : decode cX1_pairs 15 = .ok (.if_icmp .ge 69, 3) := dk_162 0 69 (dk_at dksX1_pairs_0 15 rfl rfl)
theorem dX1_pairs_18 : decode cX1_pairs 18 = .ok (.iload_n 3, 1) := dk_29 (dk_at dksX1_pairs_0 18 rfl rfl)
theorem dX1_pairs_19 : decode cX1_pairs 19 = .ok (.iconst 1, 1) := dk_4 (dk_at dksX1_pairs_0 19 rfl rfl)
theorem dX1_pairs_20 : decode cX1_pairs 20 = .ok (.iadd, 1) := dk_96 (dk_at dksX1_pairs_0 20 rfl rfl)
theorem dX1_pairs_21 : decode cX1_pairs 21 = .ok (.istore 4, 2) := dk_54 4 (dk_at dksX1_pairs_0 21 rfl rfl)
theorem dX1_pairs_23 : decode cX1_pairs 23 = .ok (.iload 4, 2) := dk_21 4 (dk_at dksX1_pairs_1 0 rfl rfl)
theorem dX1_pairs_25 : decode cX1_pairs 25 = .ok (.aload_n 0, 1) := dk_42 (dk_at dksX1_pairs_1 2 rfl rfl)
theorem dX1_pairs_26 : decode cX1_pairs 26 = .ok (.getfield 90, 3) := dk_180 0 90 (dk_at dksX1_pairs_1 3 rfl rfl)
theorem dX1_pairs_29 : decode cX1_pairs 29 = .ok (.getfield 243, 3) := dk_180 0 243 (dk_at dksX1_pairs_1 6 rfl rfl)
theorem dX1_pairs_32 : decode cX1_pairs 32 = .ok (.getfield 247, 3) := dk_180 0 247 (dk_at dksX1_pairs_1 9 rfl rfl)
theorem dX1_pairs_35 : decode cX1_pairs 35 = .ok (.if_icmp .ge 43, 3) := dk_162 0 43 (dk_at dksX1_pairs_1 12 rfl rfl)
theorem dX1_pairs_38 : decode cX1_pairs 38 = .ok (.iload_n 2, 1) := dk_28 (dk_at dksX1_pairs_1 15 rfl rfl)
theorem dX1_pairs_39 : decode cX1_pairs 39 = .ok (.aload_n 0, 1) := dk_42 (dk_at dksX1_pairs_1 16 rfl rfl)
theorem dX1_pairs_40 : decode cX1_pairs 40 = .ok (.getfield 90, 3) := dk_180 0 90 (dk_at dksX1_pairs_1 17 rfl rfl)
theorem dX1_pairs_43 : decode cX1_pairs 43 = .ok (.getfield 243, 3) := dk_180 0 243 (dk_at dksX1_pairs_1 20 rfl rfl)
theorem dX1_pairs_46 : decode cX1_pairs 46 = .ok (.iload_n 3, 1) := dk_29 (dk_at dksX1_pairs_1 23 rfl rfl)
theorem dX1_pairs_47 : decode cX1_pairs 47 = .ok (.aload_n 1, 1) := dk_43 (dk_at dksX1_pairs_2 0 rfl rfl)
theorem dX1_pairs_48 : decode cX1_pairs 48 = .ok (.iload_n 3, 1) := dk_29 (dk_at dksX1_pairs_2 1 rfl rfl)
theorem dX1_pairs_49 : decode cX1_pairs 49 = .ok (.iaload, 1) := dk_46 (dk_at dksX1_pairs_2 2 rfl rfl)
theorem dX1_pairs_50 : decode cX1_pairs 50 = .ok (.iload 4, 2) := dk_21 4 (dk_at dksX1_pairs_2 3 rfl rfl)
theorem dX1_pairs_52 : decode cX1_pairs 52 = .ok (.invokevirtual 325, 3) := dk_182 1 69 (dk_at dksX1_pairs_2 5 rfl rfl)
theorem dX1_pairs_55 : decode cX1_pairs 55 = .ok (.aload_n 1, 1) := dk_43 (dk_at dksX1_pairs_2 8 rfl rfl)
theorem dX1_pairs_56 : decode cX1_pairs 56 = .ok (.iload 4, 2) := dk_21 4 (dk_at dksX1_pairs_2 9 rfl rfl)
theorem dX1_pairs_58 : decode cX1_pairs 58 = .ok (.iaload, 1) := dk_46 (dk_at dksX1_pairs_2 11 rfl rfl)
theorem dX1_pairs_59 : decode cX1_pairs 59 = .ok (.invokestatic 329, 3) := dk_184 1 73 (dk_at dksX1_pairs_2 12 rfl rfl)
theorem dX1_pairs_62 : decode cX1_pairs 62 = .ok (.ifCond .eq 7, 3) := dk_153 0 7 (dk_at dksX1_pairs_2 15 rfl rfl)
theorem dX1_pairs_65 : decode cX1_pairs 65 = .ok (.iconst 1, 1) := dk_4 (dk_at dksX1_pairs_2 18 rfl rfl)
theorem dX1_pairs_66 : decode cX1_pairs 66 = .ok (.goto 4, 3) := dk_167 0 4 (dk_at dksX1_pairs_2 19 rfl rfl)
theorem dX1_pairs_69 : decode cX1_pairs 69 = .ok (.iconst 0, 1) := dk_3 (dk_at dksX1_pairs_2 22 rfl rfl)
theorem dX1_pairs_70 : decode cX1_pairs 70 = .ok (.iadd, 1) := dk_96 (dk_at dksX1_pairs_2 23 rfl rfl)
theorem dX1_pairs_71 : decode cX1_pairs 71 = .ok (.istore_n 2, 1) := dk_61 (dk_at dksX1_pairs_3 0 rfl rfl)
theorem dX1_pairs_72 : decode cX1_pairs 72 = .ok (.iinc 4 1, 3) := dk_132 4 1 (dk_at dksX1_pairs_3 1 rfl rfl)
theorem dX1_pairs_75 : decode cX1_pairs 75 = .ok (.goto (-52), 3) := dk_167 255 204 (dk_at dksX1_pairs_3 4 rfl rfl)
theorem dX1_pairs_78 : decode cX1_pairs 78 = .ok (.iinc 3 1, 3) := dk_132 3 1 (dk_at dksX1_pairs_3 7 rfl rfl)
theorem dX1_pairs_81 : decode cX1_pairs 81 = .ok (.goto (-77), 3) := dk_167 255 179 (dk_at dksX1_pairs_3 10 rfl rfl)
theorem dX1_pairs_84 : decode cX1_pairs 84 = .ok (.iload_n 2, 1) := dk_28 (dk_at dksX1_pairs_3 13 rfl rfl)
theorem dX1_pairs_85 : decode cX1_pairs 85 = .ok (.ireturn, 1) := dk_172 (dk_at dksX1_pairs_3 14 rfl rfl)
theorem dn_X1_pairs : yX1_pairs.cls ≠ "java/lang/invoke/MethodHandle" ∧ yX1_pairs.cls ≠ "java/lang/invoke/VarHandle" ∧ (parseMethodDescriptor yX1_pairs.desc).map (fun d => d.parameters.length) = some 1 := by decide +kernel
noncomputable def M_X1_pairs (t : Nat) (p1 : Nat) : Mo Int32 := Mo.bind (chk [0] t) (fun _ => Mo.bind (Mo.loop (S := Int32 × Int32) (E := Int32) (fun s1 => Mo.bind (gR [0] t 9) (fun v5 => Mo.bind (gR [2] v5 0) (fun v6 => Mo.bind (gI [3] v6 6) (fun v7 => if v7 ≤ s1.2 then Mo.pure (Sum.inr s1.1) else Mo.lv (s1.2 + 1) (fun v8 => Mo.bind (Mo.loop (S := Int32 × Int32) (E := Int32) (fun s9 => Mo.bind (gR [0] t 9) (fun v13 => Mo.bind (gR [2] v13 0) (fun v14 => Mo.bind (gI [3] v14 6) (fun v15 => if v15 ≤ s9.2 then Mo.pure (Sum.inr s9.1) else Mo.bind (gR [0] t 9) (fun v16 => Mo.bind (gR [2] v16 0) (fun v17 => Mo.bind (aldI 0 p1 s1.2) (fun v18 => Mo.bind (M_X4_bitten v17 s1.2 v18 s9.2) (fun v19 => Mo.bind (aldI 0 p1 s9.2) (fun v20 => Mo.bind (M_X1_has v19 v20) (fun v21 => Mo.bind ((cond v21 (Mo.pure true) (Mo.pure false) : Mo (Bool))) (fun u22 => Mo.lv (s9.1 + (b2i u22)) (fun v23 => Mo.lv (s9.2 + 1) (fun v24 => Mo.pure (Sum.inl (v23, v24))))))))))))))) (s1.1, v8)) (fun e12 => Mo.lv (s1.2 + 1) (fun v25 => Mo.pure (Sum.inl (e12, v25))))))))) (0, 0)) (fun e4 => Mo.pure e4))
set_option maxHeartbeats 4000000 in
theorem ct_X1_pairs (G : gG) (t : Nat) (p1 : Nat) : gCt G yX1_pairs cX1_pairs 5 (some .int) 1 23 [.ref t, .ref p1] (M_X1_pairs t p1) (fun x : Int32 => some (.int x)) := by
  refine gCt.of (by decide) (Nat.le_of_ble_eq_true rfl) (fun K r hG X hd ho => ?_)
  subst hG
  have X : gX K cX1_pairs 5 "BitingDoors" "pairs" (some .int) 1 23 := X
  have hle : gLe (kh1 K) (kh1 K) := gLe.rf
  show V K 5 (kh0 K) 0 [(0, .ref t), (1, .ref p1)] []
  generalize kh0 K = h at hd ⊢
  unfold M_X1_pairs at hd
  obtain ⟨-, hd⟩ := chk_some hd
  refine v_iconst (v := 0) X dX1_pairs_0 (by decide) ?_
  refine v_istore_n (lv2 := [(2, .int 0), (0, .ref t), (1, .ref p1)]) X dX1_pairs_1 2 rfl (by decide) rfl ?_
  refine v_iconst (v := 0) X dX1_pairs_2 (by decide) ?_
  refine v_istore_n (lv2 := [(3, .int 0), (2, .int 0), (0, .ref t), (1, .ref p1)]) X dX1_pairs_3 3 rfl (by decide) rfl ?_
  obtain ⟨e4, h1, hd, hd2⟩ := Mo.bind_some hd
  have KX : V K 5 h1 84 [(2, .int e4)] [] := by
    clear hd
    have hd := hd2
    refine v_iload_n X dX1_pairs_84 0 2 rfl rfl ?_
    exact v_iret X hd ho dX1_pairs_85
  have hle := (Mo.le hd2).tr hle
  clear hd2
  refine v_loc [2, 3, 1, 0] rfl ?_
  refine loop_ind hd (fun (s1 : Int32 × Int32) h => V K 5 h 4 [(0, .ref t), (1, .ref p1), (2, .int s1.1), (3, .int s1.2)] []) (fun s1 h x h2 hd hle0 ih2 ho3 => ?_)
  have hle := hle0.tr hle
  refine v_iload_n X dX1_pairs_4 3 3 rfl rfl ?_
  refine v_aload_n X dX1_pairs_5 0 0 rfl rfl ?_
  refine v_getR X hd fl_X1_90 dX1_pairs_6 (fun v5 hd => ?_)
  refine v_getR X hd fl_X1_243 dX1_pairs_9 (fun v6 hd => ?_)
  refine v_getI X hd fl_X1_247 dX1_pairs_12 (fun v7 hd => ?_)
  refine v_icmp_ge (tgt := 84) X dX1_pairs_15 (by decide) (fun q => ?_) (fun q => ?_)
  · have hd := ite_t q hd
    exact v_loc [2] rfl (v_at (P := fun (e4 : Int32) h => V K 5 h 84 [(2, .int e4)] []) (lp_out hd ho3) KX)
  · have hd := ite_f q hd
    refine v_iload_n X dX1_pairs_18 3 3 rfl rfl ?_
    refine v_iconst (v := 1) X dX1_pairs_19 (by decide) ?_
    refine v_iadd X dX1_pairs_20 ?_
    refine v_lvI hd (fun v8 hd => ?_)
    refine v_istore (lv2 := [(4, .int v8), (0, .ref t), (1, .ref p1), (2, .int s1.1), (3, .int s1.2)]) X dX1_pairs_21 (by decide) rfl ?_
    obtain ⟨e12, h1, hd, hd2⟩ := Mo.bind_some hd
    have KX : V K 5 h1 78 [(0, .ref t), (1, .ref p1), (2, .int e12), (3, .int s1.2)] [] := by
      clear hd
      have hd := hd2
      refine v_iincL (lv2 := fun v25 => [(3, .int v25), (0, .ref t), (1, .ref p1), (2, .int e12)]) X hd dX1_pairs_78 3 rfl (by decide : Int32.ofInt 1 = 1) (by decide) (fun v25 => rfl) (fun v25 hd => ?_)
      refine v_goto (tgt := 4) X dX1_pairs_81 (by decide) ?_
      exact v_loc [1, 2, 3, 0] rfl (lp_in (P := fun (s1 : Int32 × Int32) h => V K 5 h 4 [(0, .ref t), (1, .ref p1), (2, .int s1.1), (3, .int s1.2)] []) hd ih2)
    have hle := (Mo.le hd2).tr hle
    clear hd2
    refine v_loc [1, 2, 3, 4, 0] rfl ?_
    refine loop_ind hd (fun (s9 : Int32 × Int32) h => V K 5 h 23 [(0, .ref t), (1, .ref p1), (2, .int s9.1), (3, .int s1.2), (4, .int s9.2)] []) (fun s9 h x h2 hd hle0 ih10 ho11 => ?_)
    have hle := hle0.tr hle
    refine v_iload X dX1_pairs_23 4 rfl ?_
    refine v_aload_n X dX1_pairs_25 0 0 rfl rfl ?_
    refine v_getR X hd fl_X1_90 dX1_pairs_26 (fun v13 hd => ?_)
    refine v_getR X hd fl_X1_243 dX1_pairs_29 (fun v14 hd => ?_)
    refine v_getI X hd fl_X1_247 dX1_pairs_32 (fun v15 hd => ?_)
    refine v_icmp_ge (tgt := 78) X dX1_pairs_35 (by decide) (fun q => ?_) (fun q => ?_)
    · have hd := ite_t q hd
      exact v_loc [0, 1, 2, 3] rfl (v_at (P := fun (e12 : Int32) h => V K 5 h 78 [(0, .ref t), (1, .ref p1), (2, .int e12), (3, .int s1.2)] []) (lp_out hd ho11) KX)
    · have hd := ite_f q hd
      refine v_iload_n X dX1_pairs_38 2 2 rfl rfl ?_
      refine v_aload_n X dX1_pairs_39 0 0 rfl rfl ?_
      refine v_getR X hd fl_X1_90 dX1_pairs_40 (fun v16 hd => ?_)
      refine v_getR X hd fl_X1_243 dX1_pairs_43 (fun v17 hd => ?_)
      refine v_iload_n X dX1_pairs_46 3 3 rfl rfl ?_
      refine v_aload_n X dX1_pairs_47 1 1 rfl rfl ?_
      refine v_iload_n X dX1_pairs_48 3 3 rfl rfl ?_
      refine v_iald X hd dX1_pairs_49 (fun v18 hd => ?_)
      refine v_iload X dX1_pairs_50 4 rfl ?_
      refine v_callV X hd hle (ct_X4_bitten _ v17 s1.2 v18 s9.2) gCl_X4 (lw_V q1159 q1160 q1161 q114 q1162) ⟨rfl, dn_X4_bitten⟩ rfl ⟨by decide, by decide⟩ rfl (Nat.le_of_ble_eq_true rfl) dX1_pairs_52 (fun v19 h hd => ?_)
      show V K 5 h 55 [(0, .ref t), (1, .ref p1), (2, .int s9.1), (3, .int s1.2), (4, .int s9.2)] [.int v19, .int s9.1]
      refine v_aload_n X dX1_pairs_55 1 1 rfl rfl ?_
      refine v_iload X dX1_pairs_56 4 rfl ?_
      refine v_iald X hd dX1_pairs_58 (fun v20 hd => ?_)
      refine v_callS X hd hle (ct_X1_has _ v19 v20) (lw_S q1163 q899 q109 q900) dn_X1_has rfl ⟨by decide, by decide⟩ rfl (Nat.le_of_ble_eq_true rfl) dX1_pairs_59 (fun v21 h hd => ?_)
      show V K 5 h 62 [(0, .ref t), (1, .ref p1), (2, .int s9.1), (3, .int s1.2), (4, .int s9.2)] [.int (b2i v21), .int s9.1]
      obtain ⟨u22, h1, hd, hd2⟩ := Mo.bind_some hd
      have KJ : V K 5 h1 70 [(0, .ref t), (1, .ref p1), (3, .int s1.2), (4, .int s9.2)] [.int (b2i u22), .int s9.1] := by
        clear hd
        have hd := hd2
        refine v_iadd X dX1_pairs_70 ?_
        refine v_lvI hd (fun v23 hd => ?_)
        refine v_istore_n (lv2 := [(2, .int v23), (0, .ref t), (1, .ref p1), (3, .int s1.2), (4, .int s9.2)]) X dX1_pairs_71 2 rfl (by decide) rfl ?_
        refine v_iincL (lv2 := fun v24 => [(4, .int v24), (2, .int v23), (0, .ref t), (1, .ref p1), (3, .int s1.2)]) X hd dX1_pairs_72 4 rfl (by decide : Int32.ofInt 1 = 1) (by decide) (fun v24 => rfl) (fun v24 hd => ?_)
        refine v_goto (tgt := 23) X dX1_pairs_75 (by decide) ?_
        exact v_loc [2, 3, 1, 4, 0] rfl (lp_in (P := fun (s9 : Int32 × Int32) h => V K 5 h 23 [(0, .ref t), (1, .ref p1), (2, .int s9.1), (3, .int s1.2), (4, .int s9.2)] []) hd ih10)
      have hle := (Mo.le hd2).tr hle
      clear hd2
      refine v_ifZ_eq (tgt := 69) X dX1_pairs_62 (by decide) (fun q => ?_) (fun q => ?_)
      · have hd := cnd_f q hd
        refine v_iconst (v := 0) X dX1_pairs_69 (by decide) ?_
        exact v_loc [0, 1, 3, 4] rfl (v_at (P := fun (u22 : Bool) h => V K 5 h 70 [(0, .ref t), (1, .ref p1), (3, .int s1.2), (4, .int s9.2)] [.int (b2i u22), .int s9.1]) hd KJ)
      · have hd := cnd_t q hd
        refine v_iconst (v := 1) X dX1_pairs_65 (by decide) ?_
        refine v_goto (tgt := 70) X dX1_pairs_66 (by decide) ?_
        exact v_loc [0, 1, 3, 4] rfl (v_at (P := fun (u22 : Bool) h => V K 5 h 70 [(0, .ref t), (1, .ref p1), (3, .int s1.2), (4, .int s9.2)] [.int (b2i u22), .int s9.1]) hd KJ)
def dkwX1_joiner_14 : List UInt8 := [172]
abbrev dktX1_joiner_14 : List UInt8 := dkwX1_joiner_14 ++ []
def dkwX1_joiner_13 : List UInt8 := [21, 4, 184, 1, 138, 128, 61, 132, 3, 1, 167, 255, 174, 42, 27, 181, 1, 153, 42, 180, 0, 148, 3, 46]
abbrev dktX1_joiner_13 : List UInt8 := dkwX1_joiner_13 ++ dktX1_joiner_14
def dkwX1_joiner_12 : List UInt8 := [21, 5, 54, 4, 132, 5, 255, 167, 255, 214, 42, 180, 0, 142, 29, 42, 180, 0, 139, 21, 4, 46, 79, 28]
abbrev dktX1_joiner_12 : List UInt8 := dkwX1_joiner_12 ++ dktX1_joiner_13
def dkwX1_joiner_11 : List UInt8 := [154, 0, 28, 42, 180, 0, 148, 28, 21, 5, 184, 1, 138, 128, 46, 42, 180, 0, 148, 3, 46, 163, 0, 7]
abbrev dktX1_joiner_11 : List UInt8 := dkwX1_joiner_11 ++ dktX1_joiner_12
def dkwX1_joiner_10 : List UInt8 := [162, 0, 83, 2, 54, 4, 27, 4, 100, 54, 5, 21, 5, 155, 0, 43, 28, 21, 5, 184, 1, 73]
abbrev dktX1_joiner_10 : List UInt8 := dkwX1_joiner_10 ++ dktX1_joiner_11
def dkwX1_joiner_9 : List UInt8 := [180, 0, 151, 28, 46, 29, 184, 1, 150, 79, 132, 2, 255, 167, 255, 100, 3, 61, 3, 62, 29, 27]
abbrev dktX1_joiner_9 : List UInt8 := dkwX1_joiner_9 ++ dktX1_joiner_10
def dkwX1_joiner_8 : List UInt8 := [21, 4, 184, 1, 138, 128, 46, 184, 1, 144, 62, 132, 4, 1, 167, 255, 221, 42, 180, 0, 148, 28, 42]
abbrev dktX1_joiner_8 : List UInt8 := dkwX1_joiner_8 ++ dktX1_joiner_9
def dkwX1_joiner_7 : List UInt8 := [3, 54, 4, 21, 4, 27, 162, 0, 35, 28, 21, 4, 184, 1, 73, 154, 0, 20, 29, 42, 180, 0, 148, 28]
abbrev dktX1_joiner_7 : List UInt8 := dkwX1_joiner_7 ++ dktX1_joiner_8
def dkwX1_joiner_6 : List UInt8 := [180, 0, 145, 182, 1, 76, 79, 28, 4, 27, 120, 4, 100, 160, 0, 7, 3, 167, 0, 6, 19, 1, 104, 62]
abbrev dktX1_joiner_6 : List UInt8 := dkwX1_joiner_6 ++ dktX1_joiner_7
def dkwX1_joiner_5 : List UInt8 := [180, 0, 127, 42, 180, 0, 139, 29, 46, 46, 79, 132, 3, 1, 167, 255, 218, 42, 180, 0, 151, 28, 42, 42]
abbrev dktX1_joiner_5 : List UInt8 := dkwX1_joiner_5 ++ dktX1_joiner_6
def dkwX1_joiner_4 : List UInt8 := [27, 162, 0, 39, 28, 29, 184, 1, 73, 153, 0, 25, 42, 180, 0, 145, 42, 180, 0, 139, 29, 46, 42]
abbrev dktX1_joiner_4 : List UInt8 := dkwX1_joiner_4 ++ dktX1_joiner_5
def dkwX1_joiner_3 : List UInt8 := [155, 0, 158, 42, 180, 0, 90, 180, 1, 30, 3, 42, 180, 0, 145, 3, 16, 10, 184, 1, 89, 3, 62, 29]
abbrev dktX1_joiner_3 : List UInt8 := dkwX1_joiner_3 ++ dktX1_joiner_4
def dkwX1_joiner_2 : List UInt8 := [42, 180, 0, 139, 27, 28, 79, 132, 1, 1, 132, 2, 1, 167, 255, 208, 4, 27, 120, 4, 100, 61, 28]
abbrev dktX1_joiner_2 : List UInt8 := dkwX1_joiner_2 ++ dktX1_joiner_3
def dkwX1_joiner_1 : List UInt8 := [162, 0, 40, 42, 180, 0, 127, 28, 46, 42, 180, 0, 90, 180, 1, 30, 28, 46, 160, 0, 6, 167, 0, 13]
abbrev dktX1_joiner_1 : List UInt8 := dkwX1_joiner_1 ++ dktX1_joiner_2
def dkwX1_joiner_0 : List UInt8 := [42, 182, 1, 105, 154, 0, 5, 2, 172, 3, 60, 3, 61, 28, 42, 180, 0, 90, 180, 0, 243, 180, 0, 247]
abbrev dktX1_joiner_0 : List UInt8 := dkwX1_joiner_0 ++ dktX1_joiner_1
theorem dksX1_joiner_0 : cX1_joiner.data.toList.drop 0 = dktX1_joiner_0 := by decide +kernel
theorem dksX1_joiner_1 : cX1_joiner.data.toList.drop 24 = dktX1_joiner_1 := dk_seg dksX1_joiner_0 24 rfl rfl
theorem dksX1_joiner_2 : cX1_joiner.data.toList.drop 48 = dktX1_joiner_2 := dk_seg dksX1_joiner_1 24 rfl rfl
theorem dksX1_joiner_3 : cX1_joiner.data.toList.drop 71 = dktX1_joiner_3 := dk_seg dksX1_joiner_2 23 rfl rfl
theorem dksX1_joiner_4 : cX1_joiner.data.toList.drop 95 = dktX1_joiner_4 := dk_seg dksX1_joiner_3 24 rfl rfl
theorem dksX1_joiner_5 : cX1_joiner.data.toList.drop 118 = dktX1_joiner_5 := dk_seg dksX1_joiner_4 23 rfl rfl
theorem dksX1_joiner_6 : cX1_joiner.data.toList.drop 142 = dktX1_joiner_6 := dk_seg dksX1_joiner_5 24 rfl rfl
theorem dksX1_joiner_7 : cX1_joiner.data.toList.drop 166 = dktX1_joiner_7 := dk_seg dksX1_joiner_6 24 rfl rfl
theorem dksX1_joiner_8 : cX1_joiner.data.toList.drop 190 = dktX1_joiner_8 := dk_seg dksX1_joiner_7 24 rfl rfl
theorem dksX1_joiner_9 : cX1_joiner.data.toList.drop 213 = dktX1_joiner_9 := dk_seg dksX1_joiner_8 23 rfl rfl
theorem dksX1_joiner_10 : cX1_joiner.data.toList.drop 235 = dktX1_joiner_10 := dk_seg dksX1_joiner_9 22 rfl rfl
theorem dksX1_joiner_11 : cX1_joiner.data.toList.drop 257 = dktX1_joiner_11 := dk_seg dksX1_joiner_10 22 rfl rfl
theorem dksX1_joiner_12 : cX1_joiner.data.toList.drop 281 = dktX1_joiner_12 := dk_seg dksX1_joiner_11 24 rfl rfl
theorem dksX1_joiner_13 : cX1_joiner.data.toList.drop 305 = dktX1_joiner_13 := dk_seg dksX1_joiner_12 24 rfl rfl
theorem dksX1_joiner_14 : cX1_joiner.data.toList.drop 329 = dktX1_joiner_14 := dk_seg dksX1_joiner_13 24 rfl rfl
theorem dX1_joiner_0 : decode cX1_joiner 0 = .ok (.aload_n 0, 1) := dk_42 (dk_at dksX1_joiner_0 0 rfl rfl)
theorem dX1_joiner_1 : decode cX1_joiner 1 = .ok (.invokevirtual 361, 3) := dk_182 1 105 (dk_at dksX1_joiner_0 1 rfl rfl)
theorem dX1_joiner_4 : decode cX1_joiner 4 = .ok (.ifCond .ne 5, 3) := dk_154 0 5 (dk_at dksX1_joiner_0 4 rfl rfl)
theorem dX1_joiner_7 : decode cX1_joiner 7 = .ok (.iconst (-1), 1) := dk_2 (dk_at dksX1_joiner_0 7 rfl rfl)
theorem dX1_joiner_8 : decode cX1_joiner 8 = .ok (.ireturn, 1) := dk_172 (dk_at dksX1_joiner_0 8 rfl rfl)
theorem dX1_joiner_9 : decode cX1_joiner 9 = .ok (.iconst 0, 1) := dk_3 (dk_at dksX1_joiner_0 9 rfl rfl)
theorem dX1_joiner_10 : decode cX1_joiner 10 = .ok (.istore_n 1, 1) := dk_60 (dk_at dksX1_joiner_0 10 rfl rfl)
theorem dX1_joiner_11 : decode cX1_joiner 11 = .ok (.iconst 0, 1) := dk_3 (dk_at dksX1_joiner_0 11 rfl rfl)
theorem dX1_joiner_12 : decode cX1_joiner 12 = .ok (.istore_n 2, 1) := dk_61 (dk_at dksX1_joiner_0 12 rfl rfl)
theorem dX1_joiner_13 : decode cX1_joiner 13 = .ok (.iload_n 2, 1) := dk_28 (dk_at dksX1_joiner_0 13 rfl rfl)
theorem dX1_joiner_14 : decode cX1_joiner 14 = .ok (.aload_n 0, 1) := dk_42 (dk_at dksX1_joiner_0 14 rfl rfl)
theorem dX1_joiner_15 : decode cX1_joiner 15 = .ok (.getfield 90, 3) := dk_180 0 90 (dk_at dksX1_joiner_0 15 rfl rfl)
theorem dX1_joiner_18 : decode cX1_joiner 18 = .ok (.getfield 243, 3) := dk_180 0 243 (dk_at dksX1_joiner_0 18 rfl rfl)
theorem dX1_joiner_21 : decode cX1_joiner 21 = .ok (.getfield 247, 3) := dk_180 0 247 (dk_at dksX1_joiner_0 21 rfl rfl)
theorem dX1_joiner_24 : decode cX1_joiner 24 = .ok (.if_icmp .ge 40, 3) := dk_162 0 40 (dk_at dksX1_joiner_1 0 rfl rfl)
theorem dX1_joiner_27 : decode cX1_joiner 27 = .ok (.aload_n 0, 1) := dk_42 (dk_at dksX1_joiner_1 3 rfl rfl)
theorem dX1_joiner_28 : decode cX1_joiner 28 = .ok (.getfield 127, 3) := dk_180 0 127 (dk_at dksX1_joiner_1 4 rfl rfl)
theorem dX1_joiner_31 : decode cX1_joiner 31 = .ok (.iload_n 2, 1) := dk_28 (dk_at dksX1_joiner_1 7 rfl rfl)
theorem dX1_joiner_32 : decode cX1_joiner 32 = .ok (.iaload, 1) := dk_46 (dk_at dksX1_joiner_1 8 rfl rfl)
theorem dX1_joiner_33 : decode cX1_joiner 33 = .ok (.aload_n 0, 1) := dk_42 (dk_at dksX1_joiner_1 9 rfl rfl)
theorem dX1_joiner_34 : decode cX1_joiner 34 = .ok (.getfield 90, 3) := dk_180 0 90 (dk_at dksX1_joiner_1 10 rfl rfl)
theorem dX1_joiner_37 : decode cX1_joiner 37 = .ok (.getfield 286, 3) := dk_180 1 30 (dk_at dksX1_joiner_1 13 rfl rfl)
theorem dX1_joiner_40 : decode cX1_joiner 40 = .ok (.iload_n 2, 1) := dk_28 (dk_at dksX1_joiner_1 16 rfl rfl)
theorem dX1_joiner_41 : decode cX1_joiner 41 = .ok (.iaload, 1) := dk_46 (dk_at dksX1_joiner_1 17 rfl rfl)
theorem dX1_joiner_42 : decode cX1_joiner 42 = .ok (.if_icmp .ne 6, 3) := dk_160 0 6 (dk_at dksX1_joiner_1 18 rfl rfl)
theorem dX1_joiner_45 : decode cX1_joiner 45 = .ok (.goto 13, 3) := dk_167 0 13 (dk_at dksX1_joiner_1 21 rfl rfl)
theorem dX1_joiner_48 : decode cX1_joiner 48 = .ok (.aload_n 0, 1) := dk_42 (dk_at dksX1_joiner_2 0 rfl rfl)
theorem dX1_joiner_49 : decode cX1_joiner 49 = .ok (.getfield 139, 3) := dk_180 0 139 (dk_at dksX1_joiner_2 1 rfl rfl)
theorem dX1_joiner_52 : decode cX1_joiner 52 = .ok (.iload_n 1, 1) := dk_27 (dk_at dksX1_joiner_2 4 rfl rfl)
theorem dX1_joiner_53 : decode cX1_joiner 53 = .ok (.iload_n 2, 1) := dk_28 (dk_at dksX1_joiner_2 5 rfl rfl)
theorem dX1_joiner_54 : decode cX1_joiner 54 = .ok (.iastore, 1) := dk_79 (dk_at dksX1_joiner_2 6 rfl rfl)
theorem dX1_joiner_55 : decode cX1_joiner 55 = .ok (.iinc 1 1, 3) := dk_132 1 1 (dk_at dksX1_joiner_2 7 rfl rfl)
theorem dX1_joiner_58 : decode cX1_joiner 58 = .ok (.iinc 2 1, 3) := dk_132 2 1 (dk_at dksX1_joiner_2 10 rfl rfl)
theorem dX1_joiner_61 : decode cX1_joiner 61 = .ok (.goto (-48), 3) := dk_167 255 208 (dk_at dksX1_joiner_2 13 rfl rfl)
theorem dX1_joiner_64 : decode cX1_joiner 64 = .ok (.iconst 1, 1) := dk_4 (dk_at dksX1_joiner_2 16 rfl rfl)
theorem dX1_joiner_65 : decode cX1_joiner 65 = .ok (.iload_n 1, 1) := dk_27 (dk_at dksX1_joiner_2 17 rfl rfl)
theorem dX1_joiner_66 : decode cX1_joiner 66 = .ok (.ishl, 1) := dk_120 (dk_at dksX1_joiner_2 18 rfl rfl)
theorem dX1_joiner_67 : decode cX1_joiner 67 = .ok (.iconst 1, 1) := dk_4 (dk_at dksX1_joiner_2 19 rfl rfl)
theorem dX1_joiner_68 : decode cX1_joiner 68 = .ok (.isub, 1) := dk_100 (dk_at dksX1_joiner_2 20 rfl rfl)
theorem dX1_joiner_69 : decode cX1_joiner 69 = .ok (.istore_n 2, 1) := dk_61 (dk_at dksX1_joiner_2 21 rfl rfl)
theorem dX1_joiner_70 : decode cX1_joiner 70 = .ok (.iload_n 2, 1) := dk_28 (dk_at dksX1_joiner_2 22 rfl rfl)
theorem dX1_joiner_71 : decode cX1_joiner 71 = .ok (.ifCond .lt 158, 3) := dk_155 0 158 (dk_at dksX1_joiner_3 0 rfl rfl)
theorem dX1_joiner_74 : decode cX1_joiner 74 = .ok (.aload_n 0, 1) := dk_42 (dk_at dksX1_joiner_3 3 rfl rfl)
theorem dX1_joiner_75 : decode cX1_joiner 75 = .ok (.getfield 90, 3) := dk_180 0 90 (dk_at dksX1_joiner_3 4 rfl rfl)
theorem dX1_joiner_78 : decode cX1_joiner 78 = .ok (.getfield 286, 3) := dk_180 1 30 (dk_at dksX1_joiner_3 7 rfl rfl)
theorem dX1_joiner_81 : decode cX1_joiner 81 = .ok (.iconst 0, 1) := dk_3 (dk_at dksX1_joiner_3 10 rfl rfl)
theorem dX1_joiner_82 : decode cX1_joiner 82 = .ok (.aload_n 0, 1) := dk_42 (dk_at dksX1_joiner_3 11 rfl rfl)
theorem dX1_joiner_83 : decode cX1_joiner 83 = .ok (.getfield 145, 3) := dk_180 0 145 (dk_at dksX1_joiner_3 12 rfl rfl)
theorem dX1_joiner_86 : decode cX1_joiner 86 = .ok (.iconst 0, 1) := dk_3 (dk_at dksX1_joiner_3 15 rfl rfl)
theorem dX1_joiner_87 : decode cX1_joiner 87 = .ok (.bipush 10, 2) := dk_16 10 (dk_at dksX1_joiner_3 16 rfl rfl)
theorem dX1_joiner_89 : decode cX1_joiner 89 = .ok (.invokestatic 345, 3) := dk_184 1 89 (dk_at dksX1_joiner_3 18 rfl rfl)
theorem dX1_joiner_92 : decode cX1_joiner 92 = .ok (.iconst 0, 1) := dk_3 (dk_at dksX1_joiner_3 21 rfl rfl)
theorem dX1_joiner_93 : decode cX1_joiner 93 = .ok (.istore_n 3, 1) := dk_62 (dk_at dksX1_joiner_3 22 rfl rfl)
theorem dX1_joiner_94 : decode cX1_joiner 94 = .ok (.iload_n 3, 1) := dk_29 (dk_at dksX1_joiner_3 23 rfl rfl)
theorem dX1_joiner_95 : decode cX1_joiner 95 = .ok (.iload_n 1, 1) := dk_27 (dk_at dksX1_joiner_4 0 rfl rfl)
theorem dX1_joiner_96 : decode cX1_joiner 96 = .ok (.if_icmp .ge 39, 3) := dk_162 0 39 (dk_at dksX1_joiner_4 1 rfl rfl)
theorem dX1_joiner_99 : decode cX1_joiner 99 = .ok (.iload_n 2, 1) := dk_28 (dk_at dksX1_joiner_4 4 rfl rfl)
theorem dX1_joiner_100 : decode cX1_joiner 100 = .ok (.iload_n 3, 1) := dk_29 (dk_at dksX1_joiner_4 5 rfl rfl)
theorem dX1_joiner_101 : decode cX1_joiner 101 = .ok (.invokestatic 329, 3) := dk_184 1 73 (dk_at dksX1_joiner_4 6 rfl rfl)
theorem dX1_joiner_104 : decode cX1_joiner 104 = .ok (.ifCond .eq 25, 3) := dk_153 0 25 (dk_at dksX1_joiner_4 9 rfl rfl)
theorem dX1_joiner_107 : decode cX1_joiner 107 = .ok (.aload_n 0, 1) := dk_42 (dk_at dksX1_joiner_4 12 rfl rfl)
theorem dX1_joiner_108 : decode cX1_joiner 108 = .ok (.getfield 145, 3) := dk_180 0 145 (dk_at dksX1_joiner_4 13 rfl rfl)
theorem dX1_joiner_111 : decode cX1_joiner 111 = .ok (.aload_n 0, 1) := dk_42 (dk_at dksX1_joiner_4 16 rfl rfl)
theorem dX1_joiner_112 : decode cX1_joiner 112 = .ok (.getfield 139, 3) := dk_180 0 139 (dk_at dksX1_joiner_4 17 rfl rfl)
theorem dX1_joiner_115 : decode cX1_joiner 115 = .ok (.iload_n 3, 1) := dk_29 (dk_at dksX1_joiner_4 20 rfl rfl)
theorem dX1_joiner_116 : decode cX1_joiner 116 = .ok (.iaload, 1) := dk_46 (dk_at dksX1_joiner_4 21 rfl rfl)
theorem dX1_joiner_117 : decode cX1_joiner 117 = .ok (.aload_n 0, 1) := dk_42 (dk_at dksX1_joiner_4 22 rfl rfl)
theorem dX1_joiner_118 : decode cX1_joiner 118 = .ok (.getfield 127, 3) := dk_180 0 127 (dk_at dksX1_joiner_5 0 rfl rfl)
theorem dX1_joiner_121 : decode cX1_joiner 121 = .ok (.aload_n 0, 1) := dk_42 (dk_at dksX1_joiner_5 3 rfl rfl)
theorem dX1_joiner_122 : decode cX1_joiner 122 = .ok (.getfield 139, 3) := dk_180 0 139 (dk_at dksX1_joiner_5 4 rfl rfl)
theorem dX1_joiner_125 : decode cX1_joiner 125 = .ok (.iload_n 3, 1) := dk_29 (dk_at dksX1_joiner_5 7 rfl rfl)
theorem dX1_joiner_126 : decode cX1_joiner 126 = .ok (.iaload, 1) := dk_46 (dk_at dksX1_joiner_5 8 rfl rfl)
theorem dX1_joiner_127 : decode cX1_joiner 127 = .ok (.iaload, 1) := dk_46 (dk_at dksX1_joiner_5 9 rfl rfl)
theorem dX1_joiner_128 : decode cX1_joiner 128 = .ok (.iastore, 1) := dk_79 (dk_at dksX1_joiner_5 10 rfl rfl)
theorem dX1_joiner_129 : decode cX1_joiner 129 = .ok (.iinc 3 1, 3) := dk_132 3 1 (dk_at dksX1_joiner_5 11 rfl rfl)
theorem dX1_joiner_132 : decode cX1_joiner 132 = .ok (.goto (-38), 3) := dk_167 255 218 (dk_at dksX1_joiner_5 14 rfl rfl)
theorem dX1_joiner_135 : decode cX1_joiner 135 = .ok (.aload_n 0, 1) := dk_42 (dk_at dksX1_joiner_5 17 rfl rfl)
theorem dX1_joiner_136 : decode cX1_joiner 136 = .ok (.getfield 151, 3) := dk_180 0 151 (dk_at dksX1_joiner_5 18 rfl rfl)
theorem dX1_joiner_139 : decode cX1_joiner 139 = .ok (.iload_n 2, 1) := dk_28 (dk_at dksX1_joiner_5 21 rfl rfl)
theorem dX1_joiner_140 : decode cX1_joiner 140 = .ok (.aload_n 0, 1) := dk_42 (dk_at dksX1_joiner_5 22 rfl rfl)
theorem dX1_joiner_141 : decode cX1_joiner 141 = .ok (.aload_n 0, 1) := dk_42 (dk_at dksX1_joiner_5 23 rfl rfl)
theorem dX1_joiner_142 : decode cX1_joiner 142 = .ok (.getfield 145, 3) := dk_180 0 145 (dk_at dksX1_joiner_6 0 rfl rfl)
theorem dX1_joiner_145 : decode cX1_joiner 145 = .ok (.invokevirtual 332, 3) := dk_182 1 76 (dk_at dksX1_joiner_6 3 rfl rfl)
theorem dX1_joiner_148 : decode cX1_joiner 148 = .ok (.iastore, 1) := dk_79 (dk_at dksX1_joiner_6 6 rfl rfl)
theorem dX1_joiner_149 : decode cX1_joiner 149 = .ok (.iload_n 2, 1) := dk_28 (dk_at dksX1_joiner_6 7 rfl rfl)
theorem dX1_joiner_150 : decode cX1_joiner 150 = .ok (.iconst 1, 1) := dk_4 (dk_at dksX1_joiner_6 8 rfl rfl)
theorem dX1_joiner_151 : decode cX1_joiner 151 = .ok (.iload_n 1, 1) := dk_27 (dk_at dksX1_joiner_6 9 rfl rfl)
theorem dX1_joiner_152 : decode cX1_joiner 152 = .ok (.ishl, 1) := dk_120 (dk_at dksX1_joiner_6 10 rfl rfl)
theorem dX1_joiner_153 : decode cX1_joiner 153 = .ok (.iconst 1, 1) := dk_4 (dk_at dksX1_joiner_6 11 rfl rfl)
theorem dX1_joiner_154 : decode cX1_joiner 154 = .ok (.isub, 1) := dk_100 (dk_at dksX1_joiner_6 12 rfl rfl)
theorem dX1_joiner_155 : decode cX1_joiner 155 = .ok (.if_icmp .ne 7, 3) := dk_160 0 7 (dk_at dksX1_joiner_6 13 rfl rfl)
theorem dX1_joiner_158 : decode cX1_joiner 158 = .ok (.iconst 0, 1) := dk_3 (dk_at dksX1_joiner_6 16 rfl rfl)
theorem dX1_joiner_159 : decode cX1_joiner 159 = .ok (.goto 6, 3) := dk_167 0 6 (dk_at dksX1_joiner_6 17 rfl rfl)
theorem dX1_joiner_162 : decode cX1_joiner 162 = .ok (.ldc_w 360, 3) := dk_19 1 104 (dk_at dksX1_joiner_6 20 rfl rfl)
theorem dX1_joiner_165 : decode cX1_joiner 165 = .ok (.istore_n 3, 1) := dk_62 (dk_at dksX1_joiner_6 23 rfl rfl)
theorem dX1_joiner_166 : decode cX1_joiner 166 = .ok (.iconst 0, 1) := dk_3 (dk_at dksX1_joiner_7 0 rfl rfl)
theorem dX1_joiner_167 : decode cX1_joiner 167 = .ok (.istore 4, 2) := dk_54 4 (dk_at dksX1_joiner_7 1 rfl rfl)
theorem dX1_joiner_169 : decode cX1_joiner 169 = .ok (.iload 4, 2) := dk_21 4 (dk_at dksX1_joiner_7 3 rfl rfl)
theorem dX1_joiner_171 : decode cX1_joiner 171 = .ok (.iload_n 1, 1) := dk_27 (dk_at dksX1_joiner_7 5 rfl rfl)
theorem dX1_joiner_172 : decode cX1_joiner 172 = .ok (.if_icmp .ge 35, 3) := dk_162 0 35 (dk_at dksX1_joiner_7 6 rfl rfl)
theorem dX1_joiner_175 : decode cX1_joiner 175 = .ok (.iload_n 2, 1) := dk_28 (dk_at dksX1_joiner_7 9 rfl rfl)
theorem dX1_joiner_176 : decode cX1_joiner 176 = .ok (.iload 4, 2) := dk_21 4 (dk_at dksX1_joiner_7 10 rfl rfl)
theorem dX1_joiner_178 : decode cX1_joiner 178 = .ok (.invokestatic 329, 3) := dk_184 1 73 (dk_at dksX1_joiner_7 12 rfl rfl)
theorem dX1_joiner_181 : decode cX1_joiner 181 = .ok (.ifCond .ne 20, 3) := dk_154 0 20 (dk_at dksX1_joiner_7 15 rfl rfl)
theorem dX1_joiner_184 : decode cX1_joiner 184 = .ok (.iload_n 3, 1) := dk_29 (dk_at dksX1_joiner_7 18 rfl rfl)
theorem dX1_joiner_185 : decode cX1_joiner 185 = .ok (.aload_n 0, 1) := dk_42 (dk_at dksX1_joiner_7 19 rfl rfl)
theorem dX1_joiner_186 : decode cX1_joiner 186 = .ok (.getfield 148, 3) := dk_180 0 148 (dk_at dksX1_joiner_7 20 rfl rfl)
theorem dX1_joiner_189 : decode cX1_joiner 189 = .ok (.iload_n 2, 1) := dk_28 (dk_at dksX1_joiner_7 23 rfl rfl)
theorem dX1_joiner_190 : decode cX1_joiner 190 = .ok (.iload 4, 2) := dk_21 4 (dk_at dksX1_joiner_8 0 rfl rfl)
theorem dX1_joiner_192 : decode cX1_joiner 192 = .ok (.invokestatic 394, 3) := dk_184 1 138 (dk_at dksX1_joiner_8 2 rfl rfl)
theorem dX1_joiner_195 : decode cX1_joiner 195 = .ok (.ior, 1) := dk_128 (dk_at dksX1_joiner_8 5 rfl rfl)
theorem dX1_joiner_196 : decode cX1_joiner 196 = .ok (.iaload, 1) := dk_46 (dk_at dksX1_joiner_8 6 rfl rfl)
theorem dX1_joiner_197 : decode cX1_joiner 197 = .ok (.invokestatic 400, 3) := dk_184 1 144 (dk_at dksX1_joiner_8 7 rfl rfl)
theorem dX1_joiner_200 : decode cX1_joiner 200 = .ok (.istore_n 3, 1) := dk_62 (dk_at dksX1_joiner_8 10 rfl rfl)
theorem dX1_joiner_201 : decode cX1_joiner 201 = .ok (.iinc 4 1, 3) := dk_132 4 1 (dk_at dksX1_joiner_8 11 rfl rfl)
theorem dX1_joiner_204 : decode cX1_joiner 204 = .ok (.goto (-35), 3) := dk_167 255 221 (dk_at dksX1_joiner_8 14 rfl rfl)
theorem dX1_joiner_207 : decode cX1_joiner 207 = .ok (.aload_n 0, 1) := dk_42 (dk_at dksX1_joiner_8 17 rfl rfl)
theorem dX1_joiner_208 : decode cX1_joiner 208 = .ok (.getfield 148, 3) := dk_180 0 148 (dk_at dksX1_joiner_8 18 rfl rfl)
theorem dX1_joiner_211 : decode cX1_joiner 211 = .ok (.iload_n 2, 1) := dk_28 (dk_at dksX1_joiner_8 21 rfl rfl)
theorem dX1_joiner_212 : decode cX1_joiner 212 = .ok (.aload_n 0, 1) := dk_42 (dk_at dksX1_joiner_8 22 rfl rfl)
theorem dX1_joiner_213 : decode cX1_joiner 213 = .ok (.getfield 151, 3) := dk_180 0 151 (dk_at dksX1_joiner_9 0 rfl rfl)
theorem dX1_joiner_216 : decode cX1_joiner 216 = .ok (.iload_n 2, 1) := dk_28 (dk_at dksX1_joiner_9 3 rfl rfl)
theorem dX1_joiner_217 : decode cX1_joiner 217 = .ok (.iaload, 1) := dk_46 (dk_at dksX1_joiner_9 4 rfl rfl)
theorem dX1_joiner_218 : decode cX1_joiner 218 = .ok (.iload_n 3, 1) := dk_29 (dk_at dksX1_joiner_9 5 rfl rfl)
theorem dX1_joiner_219 : decode cX1_joiner 219 = .ok (.invokestatic 406, 3) := dk_184 1 150 (dk_at dksX1_joiner_9 6 rfl rfl)
theorem dX1_joiner_222 : decode cX1_joiner 222 = .ok (.iastore, 1) := dk_79 (dk_at dksX1_joiner_9 9 rfl rfl)
theorem dX1_joiner_223 : decode cX1_joiner 223 = .ok (.iinc 2 (-1), 3) := dk_132 2 255 (dk_at dksX1_joiner_9 10 rfl rfl)
theorem dX1_joiner_226 : decode cX1_joiner 226 = .ok (.goto (-156), 3) := dk_167 255 100 (dk_at dksX1_joiner_9 13 rfl rfl)
theorem dX1_joiner_229 : decode cX1_joiner 229 = .ok (.iconst 0, 1) := dk_3 (dk_at dksX1_joiner_9 16 rfl rfl)
theorem dX1_joiner_230 : decode cX1_joiner 230 = .ok (.istore_n 2, 1) := dk_61 (dk_at dksX1_joiner_9 17 rfl rfl)
theorem dX1_joiner_231 : decode cX1_joiner 231 = .ok (.iconst 0, 1) := dk_3 (dk_at dksX1_joiner_9 18 rfl rfl)
theorem dX1_joiner_232 : decode cX1_joiner 232 = .ok (.istore_n 3, 1) := dk_62 (dk_at dksX1_joiner_9 19 rfl rfl)
theorem dX1_joiner_233 : decode cX1_joiner 233 = .ok (.iload_n 3, 1) := dk_29 (dk_at dksX1_joiner_9 20 rfl rfl)
theorem dX1_joiner_234 : decode cX1_joiner 234 = .ok (.iload_n 1, 1) := dk_27 (dk_at dksX1_joiner_9 21 rfl rfl)
theorem dX1_joiner_235 : decode cX1_joiner 235 = .ok (.if_icmp .ge 83, 3) := dk_162 0 83 (dk_at dksX1_joiner_10 0 rfl rfl)
theorem dX1_joiner_238 : decode cX1_joiner 238 = .ok (.iconst (-1), 1) := dk_2 (dk_at dksX1_joiner_10 3 rfl rfl)
theorem dX1_joiner_239 : decode cX1_joiner 239 = .ok (.istore 4, 2) := dk_54 4 (dk_at dksX1_joiner_10 4 rfl rfl)
theorem dX1_joiner_241 : decode cX1_joiner 241 = .ok (.iload_n 1, 1) := dk_27 (dk_at dksX1_joiner_10 6 rfl rfl)
theorem dX1_joiner_242 : decode cX1_joiner 242 = .ok (.iconst 1, 1) := dk_4 (dk_at dksX1_joiner_10 7 rfl rfl)
theorem dX1_joiner_243 : decode cX1_joiner 243 = .ok (.isub, 1) := dk_100 (dk_at dksX1_joiner_10 8 rfl rfl)
theorem dX1_joiner_244 : decode cX1_joiner 244 = .ok (.istore 5, 2) := dk_54 5 (dk_at dksX1_joiner_10 9 rfl rfl)
theorem dX1_joiner_246 : decode cX1_joiner 246 = .ok (.iload 5, 2) := dk_21 5 (dk_at dksX1_joiner_10 11 rfl rfl)
theorem dX1_joiner_248 : decode cX1_joiner 248 = .ok (.ifCond .lt 43, 3) := dk_155 0 43 (dk_at dksX1_joiner_10 13 rfl rfl)
theorem dX1_joiner_251 : decode cX1_joiner 251 = .ok (.iload_n 2, 1) := dk_28 (dk_at dksX1_joiner_10 16 rfl rfl)
theorem dX1_joiner_252 : decode cX1_joiner 252 = .ok (.iload 5, 2) := dk_21 5 (dk_at dksX1_joiner_10 17 rfl rfl)
theorem dX1_joiner_254 : decode cX1_joiner 254 = .ok (.invokestatic 329, 3) := dk_184 1 73 (dk_at dksX1_joiner_10 19 rfl rfl)
theorem dX1_joiner_257 : decode cX1_joiner 257 = .ok (.ifCond .ne 28, 3) := dk_154 0 28 (dk_at dksX1_joiner_11 0 rfl rfl)
theorem dX1_joiner_260 : decode cX1_joiner 260 = .ok (.aload_n 0, 1) := dk_42 (dk_at dksX1_joiner_11 3 rfl rfl)
theorem dX1_joiner_261 : decode cX1_joiner 261 = .ok (.getfield 148, 3) := dk_180 0 148 (dk_at dksX1_joiner_11 4 rfl rfl)
theorem dX1_joiner_264 : decode cX1_joiner 264 = .ok (.iload_n 2, 1) := dk_28 (dk_at dksX1_joiner_11 7 rfl rfl)
theorem dX1_joiner_265 : decode cX1_joiner 265 = .ok (.iload 5, 2) := dk_21 5 (dk_at dksX1_joiner_11 8 rfl rfl)
theorem dX1_joiner_267 : decode cX1_joiner 267 = .ok (.invokestatic 394, 3) := dk_184 1 138 (dk_at dksX1_joiner_11 10 rfl rfl)
theorem dX1_joiner_270 : decode cX1_joiner 270 = .ok (.ior, 1) := dk_128 (dk_at dksX1_joiner_11 13 rfl rfl)
theorem dX1_joiner_271 : decode cX1_joiner 271 = .ok (.iaload, 1) := dk_46 (dk_at dksX1_joiner_11 14 rfl rfl)
theorem dX1_joiner_272 : decode cX1_joiner 272 = .ok (.aload_n 0, 1) := dk_42 (dk_at dksX1_joiner_11 15 rfl rfl)
theorem dX1_joiner_273 : decode cX1_joiner 273 = .ok (.getfield 148, 3) := dk_180 0 148 (dk_at dksX1_joiner_11 16 rfl rfl)
theorem dX1_joiner_276 : decode cX1_joiner 276 = .ok (.iconst 0, 1) := dk_3 (dk_at dksX1_joiner_11 19 rfl rfl)
theorem dX1_joiner_277 : decode cX1_joiner 277 = .ok (.iaload, 1) := dk_46 (dk_at dksX1_joiner_11 20 rfl rfl)
theorem dX1_joiner_278 : decode cX1_joiner 278 = .ok (.if_icmp .gt 7, 3) := dk_163 0 7 (dk_at dksX1_joiner_11 21 rfl rfl)
theorem dX1_joiner_281 : decode cX1_joiner 281 = .ok (.iload 5, 2) := dk_21 5 (dk_at dksX1_joiner_12 0 rfl rfl)
theorem dX1_joiner_283 : decode cX1_joiner 283 = .ok (.istore 4, 2) := dk_54 4 (dk_at dksX1_joiner_12 2 rfl rfl)
theorem dX1_joiner_285 : decode cX1_joiner 285 = .ok (.iinc 5 (-1), 3) := dk_132 5 255 (dk_at dksX1_joiner_12 4 rfl rfl)
theorem dX1_joiner_288 : decode cX1_joiner 288 = .ok (.goto (-42), 3) := dk_167 255 214 (dk_at dksX1_joiner_12 7 rfl rfl)
theorem dX1_joiner_291 : decode cX1_joiner 291 = .ok (.aload_n 0, 1) := dk_42 (dk_at dksX1_joiner_12 10 rfl rfl)
theorem dX1_joiner_292 : decode cX1_joiner 292 = .ok (.getfield 142, 3) := dk_180 0 142 (dk_at dksX1_joiner_12 11 rfl rfl)
theorem dX1_joiner_295 : decode cX1_joiner 295 = .ok (.iload_n 3, 1) := dk_29 (dk_at dksX1_joiner_12 14 rfl rfl)
theorem dX1_joiner_296 : decode cX1_joiner 296 = .ok (.aload_n 0, 1) := dk_42 (dk_at dksX1_joiner_12 15 rfl rfl)
theorem dX1_joiner_297 : decode cX1_joiner 297 = .ok (.getfield 139, 3) := dk_180 0 139 (dk_at dksX1_joiner_12 16 rfl rfl)
theorem dX1_joiner_300 : decode cX1_joiner 300 = .ok (.iload 4, 2) := dk_21 4 (dk_at dksX1_joiner_12 19 rfl rfl)
theorem dX1_joiner_302 : decode cX1_joiner 302 = .ok (.iaload, 1) := dk_46 (dk_at dksX1_joiner_12 21 rfl rfl)
theorem dX1_joiner_303 : decode cX1_joiner 303 = .ok (.iastore, 1) := dk_79 (dk_at dksX1_joiner_12 22 rfl rfl)
theorem dX1_joiner_304 : decode cX1_joiner 304 = .ok (.iload_n 2, 1) := dk_28 (dk_at dksX1_joiner_12 23 rfl rfl)
theorem dX1_joiner_305 : decode cX1_joiner 305 = .ok (.iload 4, 2) := dk_21 4 (dk_at dksX1_joiner_13 0 rfl rfl)
theorem dX1_joiner_307 : decode cX1_joiner 307 = .ok (.invokestatic 394, 3) := dk_184 1 138 (dk_at dksX1_joiner_13 2 rfl rfl)
theorem dX1_joiner_310 : decode cX1_joiner 310 = .ok (.ior, 1) := dk_128 (dk_at dksX1_joiner_13 5 rfl rfl)
theorem dX1_joiner_311 : decode cX1_joiner 311 = .ok (.istore_n 2, 1) := dk_61 (dk_at dksX1_joiner_13 6 rfl rfl)
theorem dX1_joiner_312 : decode cX1_joiner 312 = .ok (.iinc 3 1, 3) := dk_132 3 1 (dk_at dksX1_joiner_13 7 rfl rfl)
theorem dX1_joiner_315 : decode cX1_joiner 315 = .ok (.goto (-82), 3) := dk_167 255 174 (dk_at dksX1_joiner_13 10 rfl rfl)
theorem dX1_joiner_318 : decode cX1_joiner 318 = .ok (.aload_n 0, 1) := dk_42 (dk_at dksX1_joiner_13 13 rfl rfl)
theorem dX1_joiner_319 : decode cX1_joiner 319 = .ok (.iload_n 1, 1) := dk_27 (dk_at dksX1_joiner_13 14 rfl rfl)
theorem dX1_joiner_320 : decode cX1_joiner 320 = .ok (.putfield 409, 3) := dk_181 1 153 (dk_at dksX1_joiner_13 15 rfl rfl)
theorem dX1_joiner_323 : decode cX1_joiner 323 = .ok (.aload_n 0, 1) := dk_42 (dk_at dksX1_joiner_13 18 rfl rfl)
theorem dX1_joiner_324 : decode cX1_joiner 324 = .ok (.getfield 148, 3) := dk_180 0 148 (dk_at dksX1_joiner_13 19 rfl rfl)
theorem dX1_joiner_327 : decode cX1_joiner 327 = .ok (.iconst 0, 1) := dk_3 (dk_at dksX1_joiner_13 22 rfl rfl)
theorem dX1_joiner_328 : decode cX1_joiner 328 = .ok (.iaload, 1) := dk_46 (dk_at dksX1_joiner_13 23 rfl rfl)
theorem dX1_joiner_329 : decode cX1_joiner 329 = .ok (.ireturn, 1) := dk_172 (dk_at dksX1_joiner_14 0 rfl rfl)
theorem fl_X1_139 : gFl "BitingDoors" 139 [0] 26 := by
  intro args s hts hN ci hc
  simp only [List.mem_cons, List.not_mem_nil, or_false] at hc
  subst hc
  exact ⟨RX1, TX1, 46, "BitingDoors", gCl_X1, in_X1, by decide, Or.inl (hts _ q527), fun _ h => h⟩
theorem fl_X1_142 : gFl "BitingDoors" 142 [0] 27 := by
  intro args s hts hN ci hc
  simp only [List.mem_cons, List.not_mem_nil, or_false] at hc
  subst hc
  exact ⟨RX1, TX1, 46, "BitingDoors", gCl_X1, in_X1, by decide, Or.inl (hts _ q528), fun _ h => h⟩
theorem fl_X1_145 : gFl "BitingDoors" 145 [0] 28 := by
  intro args s hts hN ci hc
  simp only [List.mem_cons, List.not_mem_nil, or_false] at hc
  subst hc
  exact ⟨RX1, TX1, 46, "BitingDoors", gCl_X1, in_X1, by decide, Or.inl (hts _ q529), fun _ h => h⟩
theorem fl_X1_148 : gFl "BitingDoors" 148 [0] 29 := by
  intro args s hts hN ci hc
  simp only [List.mem_cons, List.not_mem_nil, or_false] at hc
  subst hc
  exact ⟨RX1, TX1, 46, "BitingDoors", gCl_X1, in_X1, by decide, Or.inl (hts _ q530), fun _ h => h⟩
theorem fl_X1_151 : gFl "BitingDoors" 151 [0] 30 := by
  intro args s hts hN ci hc
  simp only [List.mem_cons, List.not_mem_nil, or_false] at hc
  subst hc
  exact ⟨RX1, TX1, 46, "BitingDoors", gCl_X1, in_X1, by decide, Or.inl (hts _ q531), fun _ h => h⟩
theorem fp_X1_409 {nm : String} : gFp "BitingDoors" nm 409 [0] 31 .int := by
  intro args s hts hN ci hc
  simp only [List.mem_cons, List.not_mem_nil, or_false] at hc
  subst hc
  exact ⟨RX1, TX1, 46, "BitingDoors", gCl_X1, in_X1, by decide, Or.inl ⟨rfl, Or.inl (hts _ q532)⟩, fun _ h => h, rfl, fun D tys hK => gap_X1 hts hK⟩
theorem dn_X1_joiner : yX1_joiner.cls ≠ "java/lang/invoke/MethodHandle" ∧ yX1_joiner.cls ≠ "java/lang/invoke/VarHandle" ∧ (parseMethodDescriptor yX1_joiner.desc).map (fun d => d.parameters.length) = some 0 := by decide +kernel
noncomputable def M_X1_joiner (t : Nat) : Mo Int32 := Mo.bind (chk [0] t) (fun _ => Mo.bind (M_X1_findCheapest t) (fun v1 => cond v1 (Mo.bind (Mo.loop (S := Int32 × Int32) (E := Int32) (fun s2 => Mo.bind (gR [0] t 9) (fun v6 => Mo.bind (gR [2] v6 0) (fun v7 => Mo.bind (gI [3] v7 6) (fun v8 => if v8 ≤ s2.2 then Mo.pure (Sum.inr s2.1) else Mo.bind (gR [0] t 17) (fun v9 => Mo.bind (aldI 0 v9 s2.2) (fun v10 => Mo.bind (gR [0] t 9) (fun v11 => Mo.bind (gR [2] v11 1) (fun v12 => Mo.bind (aldI 0 v12 s2.2) (fun v13 => Mo.bind ((if v10 = v13 then Mo.pure s2.1 else Mo.bind (gR [0] t 26) (fun v16 => Mo.bind (astI 0 v16 s2.1 s2.2) (fun _ => Mo.lv (s2.1 + 1) (fun v17 => Mo.pure v17))) : Mo (Int32))) (fun u14 => Mo.lv (s2.2 + 1) (fun v15 => Mo.pure (Sum.inl (u14, v15))))))))))))) (0, 0)) (fun e5 => Mo.lv ((1 <<< (e5 &&& 31)) - 1) (fun v18 => Mo.bind (Mo.loop (S := Int32) (E := Unit) (fun s19 => if s19 < 0 then Mo.pure (Sum.inr ()) else Mo.bind (gR [0] t 9) (fun v23 => Mo.bind (gR [2] v23 1) (fun v24 => Mo.bind (gR [0] t 28) (fun v25 => Mo.bind (cpyI v24 0 v25 0 10) (fun _ => Mo.bind (Mo.loop (S := Int32) (E := Unit) (fun s26 => if e5 ≤ s26 then Mo.pure (Sum.inr ()) else Mo.bind (M_X1_has s19 s26) (fun v30 => Mo.bind ((cond v30 (Mo.bind (gR [0] t 28) (fun v33 => Mo.bind (gR [0] t 26) (fun v34 => Mo.bind (aldI 0 v34 s26) (fun v35 => Mo.bind (gR [0] t 17) (fun v36 => Mo.bind (gR [0] t 26) (fun v37 => Mo.bind (aldI 0 v37 s26) (fun v38 => Mo.bind (aldI 0 v36 v38) (fun v39 => Mo.bind (astI 0 v33 v35 v39) (fun _ => Mo.pure ()))))))))) (Mo.pure ()) : Mo (Unit))) (fun u31 => Mo.lv (s26 + 1) (fun v32 => Mo.pure (Sum.inl v32))))) 0) (fun e29 => Mo.bind (gR [0] t 30) (fun v40 => Mo.bind (gR [0] t 28) (fun v41 => Mo.bind (M_X1_pairs t v41) (fun v42 => Mo.bind (astI 0 v40 s19 v42) (fun _ => Mo.bind ((if s19 = ((1 <<< (e5 &&& 31)) - 1) then Mo.pure 0 else Mo.pure 1000000000 : Mo (Int32))) (fun u43 => Mo.bind (Mo.loop (S := Int32 × Int32) (E := Int32) (fun s44 => if e5 ≤ s44.2 then Mo.pure (Sum.inr s44.1) else Mo.bind (M_X1_has s19 s44.2) (fun v48 => Mo.bind ((cond v48 (Mo.pure s44.1) (Mo.bind (gR [0] t 29) (fun v51 => Mo.bind (M_X1_one s44.2) (fun v52 => Mo.bind (aldI 0 v51 (s19 ||| v52)) (fun v53 => Mo.lv (if v53 < s44.1 then v53 else s44.1) (fun v54 => Mo.pure v54))))) : Mo (Int32))) (fun u49 => Mo.lv (s44.2 + 1) (fun v50 => Mo.pure (Sum.inl (u49, v50)))))) (u43, 0)) (fun e47 => Mo.bind (gR [0] t 29) (fun v55 => Mo.bind (gR [0] t 30) (fun v56 => Mo.bind (aldI 0 v56 s19) (fun v57 => Mo.bind (astI 0 v55 s19 (if v57 < e47 then e47 else v57)) (fun _ => Mo.lv (s19 + (-1)) (fun v58 => Mo.pure (Sum.inl v58)))))))))))))))))) v18) (fun e22 => Mo.bind (Mo.loop (S := Int32 × Int32) (E := Unit) (fun s59 => if e5 ≤ s59.2 then Mo.pure (Sum.inr ()) else Mo.lv (e5 - 1) (fun v63 => Mo.bind (Mo.loop (S := Int32 × Int32) (E := Int32) (fun s64 => if s64.2 < 0 then Mo.pure (Sum.inr s64.1) else Mo.bind (M_X1_has s59.1 s64.2) (fun v68 => Mo.bind ((cond v68 (Mo.pure s64.1) (Mo.bind (gR [0] t 29) (fun v71 => Mo.bind (M_X1_one s64.2) (fun v72 => Mo.bind (aldI 0 v71 (s59.1 ||| v72)) (fun v73 => Mo.bind (gR [0] t 29) (fun v74 => Mo.bind (aldI 0 v74 0) (fun v75 => if v75 < v73 then Mo.pure s64.1 else Mo.pure s64.2)))))) : Mo (Int32))) (fun u69 => Mo.lv (s64.2 + (-1)) (fun v70 => Mo.pure (Sum.inl (u69, v70)))))) ((-1), v63)) (fun e67 => Mo.bind (gR [0] t 27) (fun v76 => Mo.bind (gR [0] t 26) (fun v77 => Mo.bind (aldI 0 v77 e67) (fun v78 => Mo.bind (astI 0 v76 s59.2 v78) (fun _ => Mo.bind (M_X1_one e67) (fun v79 => Mo.lv (s59.1 ||| v79) (fun v80 => Mo.lv (s59.2 + 1) (fun v81 => Mo.pure (Sum.inl (v80, v81)))))))))))) (0, 0)) (fun e62 => Mo.bind (pF [0] t 31 (.int e5)) (fun _ => Mo.bind (gR [0] t 29) (fun v82 => Mo.bind (aldI 0 v82 0) (fun v83 => Mo.pure v83)))))))) (Mo.pure (-1))))
set_option maxHeartbeats 4000000 in
theorem ct_X1_joiner (G : gG) (t : Nat) : gCt G yX1_joiner cX1_joiner 6 (some .int) 16 405 [.ref t] (M_X1_joiner t) (fun x : Int32 => some (.int x)) := by
  refine gCt.of (by decide) (Nat.le_of_ble_eq_true rfl) (fun K r hG X hd ho => ?_)
  subst hG
  have X : gX K cX1_joiner 6 "BitingDoors" "joiner" (some .int) 16 405 := X
  have hle : gLe (kh1 K) (kh1 K) := gLe.rf
  show V K 6 (kh0 K) 0 [(0, .ref t)] []
  generalize kh0 K = h at hd ⊢
  unfold M_X1_joiner at hd
  obtain ⟨-, hd⟩ := chk_some hd
  refine v_aload_n X dX1_joiner_0 0 0 rfl rfl ?_
  refine v_callV X hd hle (ct_X1_findCheapest _ t) gCl_X1 (lw_V q1168 q1170 qs15 q109 q1171) ⟨rfl, dn_X1_findCheapest⟩ rfl ⟨by decide, by decide⟩ rfl (Nat.le_of_ble_eq_true rfl) dX1_joiner_1 (fun v1 h hd => ?_)
  show V K 6 h 4 [(0, .ref t)] [.int (b2i v1)]
  refine v_ifZ_ne (tgt := 9) X dX1_joiner_4 (by decide) (fun q => ?_) (fun q => ?_)
  · have hd := cnd_t q hd
    refine v_iconst (v := 0) X dX1_joiner_9 (by decide) ?_
    refine v_istore_n (lv2 := [(1, .int 0), (0, .ref t)]) X dX1_joiner_10 1 rfl (by decide) rfl ?_
    refine v_iconst (v := 0) X dX1_joiner_11 (by decide) ?_
    refine v_istore_n (lv2 := [(2, .int 0), (1, .int 0), (0, .ref t)]) X dX1_joiner_12 2 rfl (by decide) rfl ?_
    obtain ⟨e5, h1, hd, hd2⟩ := Mo.bind_some hd
    have KX : V K 6 h1 64 [(0, .ref t), (1, .int e5)] [] := by
      clear hd
      have hd := hd2
      refine v_iconst (v := 1) X dX1_joiner_64 (by decide) ?_
      refine v_iload_n X dX1_joiner_65 1 1 rfl rfl ?_
      refine v_ishl X dX1_joiner_66 ?_
      refine v_iconst (v := 1) X dX1_joiner_67 (by decide) ?_
      refine v_isub X dX1_joiner_68 ?_
      refine v_lvI hd (fun v18 hd => ?_)
      refine v_istore_n (lv2 := [(2, .int v18), (0, .ref t), (1, .int e5)]) X dX1_joiner_69 2 rfl (by decide) rfl ?_
      obtain ⟨e22, h1, hd, hd2⟩ := Mo.bind_some hd
      have KX : V K 6 h1 229 [(0, .ref t), (1, .int e5)] [] := by
        clear hd
        have hd := hd2
        refine v_iconst (v := 0) X dX1_joiner_229 (by decide) ?_
        refine v_istore_n (lv2 := [(2, .int 0), (0, .ref t), (1, .int e5)]) X dX1_joiner_230 2 rfl (by decide) rfl ?_
        refine v_iconst (v := 0) X dX1_joiner_231 (by decide) ?_
        refine v_istore_n (lv2 := [(3, .int 0), (2, .int 0), (0, .ref t), (1, .int e5)]) X dX1_joiner_232 3 rfl (by decide) rfl ?_
        obtain ⟨e62, h1, hd, hd2⟩ := Mo.bind_some hd
        have KX : V K 6 h1 318 [(0, .ref t), (1, .int e5)] [] := by
          clear hd
          have hd := hd2
          refine v_aload_n X dX1_joiner_318 0 0 rfl rfl ?_
          refine v_iload_n X dX1_joiner_319 1 1 rfl rfl ?_
          refine v_put (v := .int e5) X hd fp_X1_409 rfl rfl dX1_joiner_320 (fun h hd => ?_)
          refine v_aload_n X dX1_joiner_323 0 0 rfl rfl ?_
          refine v_getR X hd fl_X1_148 dX1_joiner_324 (fun v82 hd => ?_)
          refine v_iconst (v := 0) X dX1_joiner_327 (by decide) ?_
          refine v_iald X hd dX1_joiner_328 (fun v83 hd => ?_)
          exact v_iret X hd ho dX1_joiner_329
        have hle := (Mo.le hd2).tr hle
        clear hd2
        refine v_loc [2, 3, 1, 0] rfl ?_
        refine loop_ind hd (fun (s59 : Int32 × Int32) h => V K 6 h 233 [(0, .ref t), (1, .int e5), (2, .int s59.1), (3, .int s59.2)] []) (fun s59 h x h2 hd hle0 ih60 ho61 => ?_)
        have hle := hle0.tr hle
        refine v_iload_n X dX1_joiner_233 3 3 rfl rfl ?_
        refine v_iload_n X dX1_joiner_234 1 1 rfl rfl ?_
        refine v_icmp_ge (tgt := 318) X dX1_joiner_235 (by decide) (fun q => ?_) (fun q => ?_)
        · have hd := ite_t q hd
          exact v_loc [0, 1] rfl (v_at (P := fun (e62 : Unit) h => V K 6 h 318 [(0, .ref t), (1, .int e5)] []) (lp_out hd ho61) KX)
        · have hd := ite_f q hd
          refine v_iconst (v := (-1)) X dX1_joiner_238 (by decide) ?_
          refine v_istore (lv2 := [(4, .int (-1)), (0, .ref t), (1, .int e5), (2, .int s59.1), (3, .int s59.2)]) X dX1_joiner_239 (by decide) rfl ?_
          refine v_iload_n X dX1_joiner_241 2 1 rfl rfl ?_
          refine v_iconst (v := 1) X dX1_joiner_242 (by decide) ?_
          refine v_isub X dX1_joiner_243 ?_
          refine v_lvI hd (fun v63 hd => ?_)
          refine v_istore (lv2 := [(5, .int v63), (4, .int (-1)), (0, .ref t), (1, .int e5), (2, .int s59.1), (3, .int s59.2)]) X dX1_joiner_244 (by decide) rfl ?_
          obtain ⟨e67, h1, hd, hd2⟩ := Mo.bind_some hd
          have KX : V K 6 h1 291 [(0, .ref t), (1, .int e5), (2, .int s59.1), (3, .int s59.2), (4, .int e67)] [] := by
            clear hd
            have hd := hd2
            refine v_aload_n X dX1_joiner_291 0 0 rfl rfl ?_
            refine v_getR X hd fl_X1_142 dX1_joiner_292 (fun v76 hd => ?_)
            refine v_iload_n X dX1_joiner_295 3 3 rfl rfl ?_
            refine v_aload_n X dX1_joiner_296 0 0 rfl rfl ?_
            refine v_getR X hd fl_X1_139 dX1_joiner_297 (fun v77 hd => ?_)
            refine v_iload X dX1_joiner_300 4 rfl ?_
            refine v_iald X hd dX1_joiner_302 (fun v78 hd => ?_)
            refine v_iast X hd dX1_joiner_303 (fun h hd => ?_)
            refine v_iload_n X dX1_joiner_304 2 2 rfl rfl ?_
            refine v_iload X dX1_joiner_305 4 rfl ?_
            refine v_callS X hd hle (ct_X1_one _ e67) (lw_S q1240 q895 q109 q896) dn_X1_one rfl ⟨by decide, by decide⟩ rfl (Nat.le_of_ble_eq_true rfl) dX1_joiner_307 (fun v79 h hd => ?_)
            show V K 6 h 310 [(0, .ref t), (1, .int e5), (2, .int s59.1), (3, .int s59.2), (4, .int e67)] [.int v79, .int s59.1]
            refine v_ior X dX1_joiner_310 ?_
            refine v_lvI hd (fun v80 hd => ?_)
            refine v_istore_n (lv2 := [(2, .int v80), (0, .ref t), (1, .int e5), (3, .int s59.2), (4, .int e67)]) X dX1_joiner_311 2 rfl (by decide) rfl ?_
            refine v_iincL (lv2 := fun v81 => [(3, .int v81), (2, .int v80), (0, .ref t), (1, .int e5), (4, .int e67)]) X hd dX1_joiner_312 3 rfl (by decide : Int32.ofInt 1 = 1) (by decide) (fun v81 => rfl) (fun v81 hd => ?_)
            refine v_goto (tgt := 233) X dX1_joiner_315 (by decide) ?_
            exact v_loc [2, 3, 1, 0] rfl (lp_in (P := fun (s59 : Int32 × Int32) h => V K 6 h 233 [(0, .ref t), (1, .int e5), (2, .int s59.1), (3, .int s59.2)] []) hd ih60)
          have hle := (Mo.le hd2).tr hle
          clear hd2
          refine v_loc [2, 3, 4, 5, 1, 0] rfl ?_
          refine loop_ind hd (fun (s64 : Int32 × Int32) h => V K 6 h 246 [(0, .ref t), (1, .int e5), (2, .int s59.1), (3, .int s59.2), (4, .int s64.1), (5, .int s64.2)] []) (fun s64 h x h2 hd hle0 ih65 ho66 => ?_)
          have hle := hle0.tr hle
          refine v_iload X dX1_joiner_246 5 rfl ?_
          refine v_if_lt (tgt := 291) X dX1_joiner_248 (by decide) (fun q => ?_) (fun q => ?_)
          · have hd := ite_t q hd
            exact v_loc [0, 1, 2, 3, 4] rfl (v_at (P := fun (e67 : Int32) h => V K 6 h 291 [(0, .ref t), (1, .int e5), (2, .int s59.1), (3, .int s59.2), (4, .int e67)] []) (lp_out hd ho66) KX)
          · have hd := ite_f q hd
            refine v_iload_n X dX1_joiner_251 2 2 rfl rfl ?_
            refine v_iload X dX1_joiner_252 5 rfl ?_
            refine v_callS X hd hle (ct_X1_has _ s59.1 s64.2) (lw_S q1163 q899 q109 q900) dn_X1_has rfl ⟨by decide, by decide⟩ rfl (Nat.le_of_ble_eq_true rfl) dX1_joiner_254 (fun v68 h hd => ?_)
            show V K 6 h 257 [(0, .ref t), (1, .int e5), (2, .int s59.1), (3, .int s59.2), (4, .int s64.1), (5, .int s64.2)] [.int (b2i v68)]
            obtain ⟨u69, h1, hd, hd2⟩ := Mo.bind_some hd
            have KJ : V K 6 h1 285 [(0, .ref t), (1, .int e5), (2, .int s59.1), (3, .int s59.2), (4, .int u69), (5, .int s64.2)] [] := by
              clear hd
              have hd := hd2
              refine v_iincL (lv2 := fun v70 => [(5, .int v70), (0, .ref t), (1, .int e5), (2, .int s59.1), (3, .int s59.2), (4, .int u69)]) X hd dX1_joiner_285 5 rfl (by decide : Int32.ofInt (-1) = (-1)) (by decide) (fun v70 => rfl) (fun v70 hd => ?_)
              refine v_goto (tgt := 246) X dX1_joiner_288 (by decide) ?_
              exact v_loc [1, 2, 3, 4, 5, 0] rfl (lp_in (P := fun (s64 : Int32 × Int32) h => V K 6 h 246 [(0, .ref t), (1, .int e5), (2, .int s59.1), (3, .int s59.2), (4, .int s64.1), (5, .int s64.2)] []) hd ih65)
            have hle := (Mo.le hd2).tr hle
            clear hd2
            refine v_ifZ_ne (tgt := 285) X dX1_joiner_257 (by decide) (fun q => ?_) (fun q => ?_)
            · have hd := cnd_t q hd
              exact v_loc [0, 1, 2, 3, 4, 5] rfl (v_at (P := fun (u69 : Int32) h => V K 6 h 285 [(0, .ref t), (1, .int e5), (2, .int s59.1), (3, .int s59.2), (4, .int u69), (5, .int s64.2)] []) hd KJ)
            · have hd := cnd_f q hd
              refine v_aload_n X dX1_joiner_260 0 0 rfl rfl ?_
              refine v_getR X hd fl_X1_148 dX1_joiner_261 (fun v71 hd => ?_)
              refine v_iload_n X dX1_joiner_264 2 2 rfl rfl ?_
              refine v_iload X dX1_joiner_265 5 rfl ?_
              refine v_callS X hd hle (ct_X1_one _ s64.2) (lw_S q1240 q895 q109 q896) dn_X1_one rfl ⟨by decide, by decide⟩ rfl (Nat.le_of_ble_eq_true rfl) dX1_joiner_267 (fun v72 h hd => ?_)
              show V K 6 h 270 [(0, .ref t), (1, .int e5), (2, .int s59.1), (3, .int s59.2), (4, .int s64.1), (5, .int s64.2)] [.int v72, .int s59.1, .ref v71]
              refine v_ior X dX1_joiner_270 ?_
              refine v_iald X hd dX1_joiner_271 (fun v73 hd => ?_)
              refine v_aload_n X dX1_joiner_272 0 0 rfl rfl ?_
              refine v_getR X hd fl_X1_148 dX1_joiner_273 (fun v74 hd => ?_)
              refine v_iconst (v := 0) X dX1_joiner_276 (by decide) ?_
              refine v_iald X hd dX1_joiner_277 (fun v75 hd => ?_)
              refine v_icmp_gt (tgt := 285) X dX1_joiner_278 (by decide) (fun q => ?_) (fun q => ?_)
              · have hd := ite_t q hd
                exact v_loc [0, 1, 2, 3, 4, 5] rfl (v_at (P := fun (u69 : Int32) h => V K 6 h 285 [(0, .ref t), (1, .int e5), (2, .int s59.1), (3, .int s59.2), (4, .int u69), (5, .int s64.2)] []) hd KJ)
              · have hd := ite_f q hd
                refine v_iload X dX1_joiner_281 5 rfl ?_
                refine v_istore (lv2 := [(4, .int s64.2), (0, .ref t), (1, .int e5), (2, .int s59.1), (3, .int s59.2), (5, .int s64.2)]) X dX1_joiner_283 (by decide) rfl ?_
                exact v_loc [1, 2, 3, 4, 0, 5] rfl (v_at (P := fun (u69 : Int32) h => V K 6 h 285 [(0, .ref t), (1, .int e5), (2, .int s59.1), (3, .int s59.2), (4, .int u69), (5, .int s64.2)] []) hd KJ)
      have hle := (Mo.le hd2).tr hle
      clear hd2
      refine v_loc [1, 2, 0] rfl ?_
      refine loop_ind hd (fun (s19 : Int32) h => V K 6 h 70 [(0, .ref t), (1, .int e5), (2, .int s19)] []) (fun s19 h x h2 hd hle0 ih20 ho21 => ?_)
      have hle := hle0.tr hle
      refine v_iload_n X dX1_joiner_70 2 2 rfl rfl ?_
      refine v_if_lt (tgt := 229) X dX1_joiner_71 (by decide) (fun q => ?_) (fun q => ?_)
      · have hd := ite_t q hd
        exact v_loc [0, 1] rfl (v_at (P := fun (e22 : Unit) h => V K 6 h 229 [(0, .ref t), (1, .int e5)] []) (lp_out hd ho21) KX)
      · have hd := ite_f q hd
        refine v_aload_n X dX1_joiner_74 0 0 rfl rfl ?_
        refine v_getR X hd fl_X1_90 dX1_joiner_75 (fun v23 hd => ?_)
        refine v_getR X hd fl_X1_286 dX1_joiner_78 (fun v24 hd => ?_)
        refine v_iconst (v := 0) X dX1_joiner_81 (by decide) ?_
        refine v_aload_n X dX1_joiner_82 0 0 rfl rfl ?_
        refine v_getR X hd fl_X1_145 dX1_joiner_83 (fun v25 hd => ?_)
        refine v_iconst (v := 0) X dX1_joiner_86 (by decide) ?_
        refine v_bipush (v := 10) X dX1_joiner_87 (by decide) ?_
        refine v_cpyI X hd q1187 q1189 q1188 q131 (Nat.le_of_ble_eq_true rfl) (by decide) (by decide) dX1_joiner_89 (fun h hd => ?_)
        refine v_iconst (v := 0) X dX1_joiner_92 (by decide) ?_
        refine v_istore_n (lv2 := [(3, .int 0), (0, .ref t), (1, .int e5), (2, .int s19)]) X dX1_joiner_93 3 rfl (by decide) rfl ?_
        obtain ⟨e29, h1, hd, hd2⟩ := Mo.bind_some hd
        have KX : V K 6 h1 135 [(0, .ref t), (1, .int e5), (2, .int s19)] [] := by
          clear hd
          have hd := hd2
          refine v_aload_n X dX1_joiner_135 0 0 rfl rfl ?_
          refine v_getR X hd fl_X1_151 dX1_joiner_136 (fun v40 hd => ?_)
          refine v_iload_n X dX1_joiner_139 2 2 rfl rfl ?_
          refine v_aload_n X dX1_joiner_140 0 0 rfl rfl ?_
          refine v_aload_n X dX1_joiner_141 0 0 rfl rfl ?_
          refine v_getR X hd fl_X1_145 dX1_joiner_142 (fun v41 hd => ?_)
          refine v_callV X hd hle (ct_X1_pairs _ t v41) gCl_X1 (lw_V q1155 q1157 qs14 q109 q1158) ⟨rfl, dn_X1_pairs⟩ rfl ⟨by decide, by decide⟩ rfl (Nat.le_of_ble_eq_true rfl) dX1_joiner_145 (fun v42 h hd => ?_)
          show V K 6 h 148 [(0, .ref t), (1, .int e5), (2, .int s19)] [.int v42, .int s19, .ref v40]
          refine v_iast X hd dX1_joiner_148 (fun h hd => ?_)
          refine v_iload_n X dX1_joiner_149 2 2 rfl rfl ?_
          refine v_iconst (v := 1) X dX1_joiner_150 (by decide) ?_
          refine v_iload_n X dX1_joiner_151 1 1 rfl rfl ?_
          refine v_ishl X dX1_joiner_152 ?_
          refine v_iconst (v := 1) X dX1_joiner_153 (by decide) ?_
          refine v_isub X dX1_joiner_154 ?_
          obtain ⟨u43, h1, hd, hd2⟩ := Mo.bind_some hd
          have KJ : V K 6 h1 165 [(0, .ref t), (1, .int e5), (2, .int s19)] [.int u43] := by
            clear hd
            have hd := hd2
            refine v_istore_n (lv2 := [(3, .int u43), (0, .ref t), (1, .int e5), (2, .int s19)]) X dX1_joiner_165 3 rfl (by decide) rfl ?_
            refine v_iconst (v := 0) X dX1_joiner_166 (by decide) ?_
            refine v_istore (lv2 := [(4, .int 0), (3, .int u43), (0, .ref t), (1, .int e5), (2, .int s19)]) X dX1_joiner_167 (by decide) rfl ?_
            obtain ⟨e47, h1, hd, hd2⟩ := Mo.bind_some hd
            have KX : V K 6 h1 207 [(0, .ref t), (1, .int e5), (2, .int s19), (3, .int e47)] [] := by
              clear hd
              have hd := hd2
              refine v_aload_n X dX1_joiner_207 0 0 rfl rfl ?_
              refine v_getR X hd fl_X1_148 dX1_joiner_208 (fun v55 hd => ?_)
              refine v_iload_n X dX1_joiner_211 2 2 rfl rfl ?_
              refine v_aload_n X dX1_joiner_212 0 0 rfl rfl ?_
              refine v_getR X hd fl_X1_151 dX1_joiner_213 (fun v56 hd => ?_)
              refine v_iload_n X dX1_joiner_216 2 2 rfl rfl ?_
              refine v_iald X hd dX1_joiner_217 (fun v57 hd => ?_)
              refine v_iload_n X dX1_joiner_218 3 3 rfl rfl ?_
              refine v_mmax X hd hle q1262 q973 q127 q974 (by decide +kernel) (Nat.le_of_ble_eq_true rfl) (by decide) (by decide) dX1_joiner_219 ?_
              refine v_iast X hd dX1_joiner_222 (fun h hd => ?_)
              refine v_iincL (lv2 := fun v58 => [(2, .int v58), (0, .ref t), (1, .int e5), (3, .int e47)]) X hd dX1_joiner_223 2 rfl (by decide : Int32.ofInt (-1) = (-1)) (by decide) (fun v58 => rfl) (fun v58 hd => ?_)
              refine v_goto (tgt := 70) X dX1_joiner_226 (by decide) ?_
              exact v_loc [1, 2, 0] rfl (lp_in (P := fun (s19 : Int32) h => V K 6 h 70 [(0, .ref t), (1, .int e5), (2, .int s19)] []) hd ih20)
            have hle := (Mo.le hd2).tr hle
            clear hd2
            refine v_loc [2, 3, 4, 1, 0] rfl ?_
            refine loop_ind hd (fun (s44 : Int32 × Int32) h => V K 6 h 169 [(0, .ref t), (1, .int e5), (2, .int s19), (3, .int s44.1), (4, .int s44.2)] []) (fun s44 h x h2 hd hle0 ih45 ho46 => ?_)
            have hle := hle0.tr hle
            refine v_iload X dX1_joiner_169 4 rfl ?_
            refine v_iload_n X dX1_joiner_171 1 1 rfl rfl ?_
            refine v_icmp_ge (tgt := 207) X dX1_joiner_172 (by decide) (fun q => ?_) (fun q => ?_)
            · have hd := ite_t q hd
              exact v_loc [0, 1, 2, 3] rfl (v_at (P := fun (e47 : Int32) h => V K 6 h 207 [(0, .ref t), (1, .int e5), (2, .int s19), (3, .int e47)] []) (lp_out hd ho46) KX)
            · have hd := ite_f q hd
              refine v_iload_n X dX1_joiner_175 2 2 rfl rfl ?_
              refine v_iload X dX1_joiner_176 4 rfl ?_
              refine v_callS X hd hle (ct_X1_has _ s19 s44.2) (lw_S q1163 q899 q109 q900) dn_X1_has rfl ⟨by decide, by decide⟩ rfl (Nat.le_of_ble_eq_true rfl) dX1_joiner_178 (fun v48 h hd => ?_)
              show V K 6 h 181 [(0, .ref t), (1, .int e5), (2, .int s19), (3, .int s44.1), (4, .int s44.2)] [.int (b2i v48)]
              obtain ⟨u49, h1, hd, hd2⟩ := Mo.bind_some hd
              have KJ : V K 6 h1 201 [(0, .ref t), (1, .int e5), (2, .int s19), (3, .int u49), (4, .int s44.2)] [] := by
                clear hd
                have hd := hd2
                refine v_iincL (lv2 := fun v50 => [(4, .int v50), (0, .ref t), (1, .int e5), (2, .int s19), (3, .int u49)]) X hd dX1_joiner_201 4 rfl (by decide : Int32.ofInt 1 = 1) (by decide) (fun v50 => rfl) (fun v50 hd => ?_)
                refine v_goto (tgt := 169) X dX1_joiner_204 (by decide) ?_
                exact v_loc [1, 2, 3, 4, 0] rfl (lp_in (P := fun (s44 : Int32 × Int32) h => V K 6 h 169 [(0, .ref t), (1, .int e5), (2, .int s19), (3, .int s44.1), (4, .int s44.2)] []) hd ih45)
              have hle := (Mo.le hd2).tr hle
              clear hd2
              refine v_ifZ_ne (tgt := 201) X dX1_joiner_181 (by decide) (fun q => ?_) (fun q => ?_)
              · have hd := cnd_t q hd
                exact v_loc [0, 1, 2, 3, 4] rfl (v_at (P := fun (u49 : Int32) h => V K 6 h 201 [(0, .ref t), (1, .int e5), (2, .int s19), (3, .int u49), (4, .int s44.2)] []) hd KJ)
              · have hd := cnd_f q hd
                refine v_iload_n X dX1_joiner_184 3 3 rfl rfl ?_
                refine v_aload_n X dX1_joiner_185 0 0 rfl rfl ?_
                refine v_getR X hd fl_X1_148 dX1_joiner_186 (fun v51 hd => ?_)
                refine v_iload_n X dX1_joiner_189 2 2 rfl rfl ?_
                refine v_iload X dX1_joiner_190 4 rfl ?_
                refine v_callS X hd hle (ct_X1_one _ s44.2) (lw_S q1240 q895 q109 q896) dn_X1_one rfl ⟨by decide, by decide⟩ rfl (Nat.le_of_ble_eq_true rfl) dX1_joiner_192 (fun v52 h hd => ?_)
                show V K 6 h 195 [(0, .ref t), (1, .int e5), (2, .int s19), (3, .int s44.1), (4, .int s44.2)] [.int v52, .int s19, .ref v51, .int s44.1]
                refine v_ior X dX1_joiner_195 ?_
                refine v_iald X hd dX1_joiner_196 (fun v53 hd => ?_)
                refine v_mmin X hd hle q1261 q976 q127 q977 (by decide +kernel) (Nat.le_of_ble_eq_true rfl) (by decide) (by decide) dX1_joiner_197 ?_
                refine v_lvI hd (fun v54 hd => ?_)
                refine v_istore_n (lv2 := [(3, .int v54), (0, .ref t), (1, .int e5), (2, .int s19), (4, .int s44.2)]) X dX1_joiner_200 3 rfl (by decide) rfl ?_
                exact v_loc [1, 2, 3, 0, 4] rfl (v_at (P := fun (u49 : Int32) h => V K 6 h 201 [(0, .ref t), (1, .int e5), (2, .int s19), (3, .int u49), (4, .int s44.2)] []) hd KJ)
          have hle := (Mo.le hd2).tr hle
          clear hd2
          refine v_icmp_ne (tgt := 162) X dX1_joiner_155 (by decide) (fun q => ?_) (fun q => ?_)
          · have hd := ite_f q hd
            refine v_ldcw X q1182 dX1_joiner_162 ?_
            exact v_loc [0, 1, 2] rfl (v_at (P := fun (u43 : Int32) h => V K 6 h 165 [(0, .ref t), (1, .int e5), (2, .int s19)] [.int u43]) hd KJ)
          · have hd := ite_t q hd
            refine v_iconst (v := 0) X dX1_joiner_158 (by decide) ?_
            refine v_goto (tgt := 165) X dX1_joiner_159 (by decide) ?_
            exact v_loc [0, 1, 2] rfl (v_at (P := fun (u43 : Int32) h => V K 6 h 165 [(0, .ref t), (1, .int e5), (2, .int s19)] [.int u43]) hd KJ)
        have hle := (Mo.le hd2).tr hle
        clear hd2
        refine v_loc [1, 2, 3, 0] rfl ?_
        refine loop_ind hd (fun (s26 : Int32) h => V K 6 h 94 [(0, .ref t), (1, .int e5), (2, .int s19), (3, .int s26)] []) (fun s26 h x h2 hd hle0 ih27 ho28 => ?_)
        have hle := hle0.tr hle
        refine v_iload_n X dX1_joiner_94 3 3 rfl rfl ?_
        refine v_iload_n X dX1_joiner_95 1 1 rfl rfl ?_
        refine v_icmp_ge (tgt := 135) X dX1_joiner_96 (by decide) (fun q => ?_) (fun q => ?_)
        · have hd := ite_t q hd
          exact v_loc [0, 1, 2] rfl (v_at (P := fun (e29 : Unit) h => V K 6 h 135 [(0, .ref t), (1, .int e5), (2, .int s19)] []) (lp_out hd ho28) KX)
        · have hd := ite_f q hd
          refine v_iload_n X dX1_joiner_99 2 2 rfl rfl ?_
          refine v_iload_n X dX1_joiner_100 3 3 rfl rfl ?_
          refine v_callS X hd hle (ct_X1_has _ s19 s26) (lw_S q1163 q899 q109 q900) dn_X1_has rfl ⟨by decide, by decide⟩ rfl (Nat.le_of_ble_eq_true rfl) dX1_joiner_101 (fun v30 h hd => ?_)
          show V K 6 h 104 [(0, .ref t), (1, .int e5), (2, .int s19), (3, .int s26)] [.int (b2i v30)]
          obtain ⟨u31, h1, hd, hd2⟩ := Mo.bind_some hd
          have KJ : V K 6 h1 129 [(0, .ref t), (1, .int e5), (2, .int s19), (3, .int s26)] [] := by
            clear hd
            have hd := hd2
            refine v_iincL (lv2 := fun v32 => [(3, .int v32), (0, .ref t), (1, .int e5), (2, .int s19)]) X hd dX1_joiner_129 3 rfl (by decide : Int32.ofInt 1 = 1) (by decide) (fun v32 => rfl) (fun v32 hd => ?_)
            refine v_goto (tgt := 94) X dX1_joiner_132 (by decide) ?_
            exact v_loc [1, 2, 3, 0] rfl (lp_in (P := fun (s26 : Int32) h => V K 6 h 94 [(0, .ref t), (1, .int e5), (2, .int s19), (3, .int s26)] []) hd ih27)
          have hle := (Mo.le hd2).tr hle
          clear hd2
          refine v_ifZ_eq (tgt := 129) X dX1_joiner_104 (by decide) (fun q => ?_) (fun q => ?_)
          · have hd := cnd_f q hd
            exact v_loc [0, 1, 2, 3] rfl (v_at (P := fun (u31 : Unit) h => V K 6 h 129 [(0, .ref t), (1, .int e5), (2, .int s19), (3, .int s26)] []) hd KJ)
          · have hd := cnd_t q hd
            refine v_aload_n X dX1_joiner_107 0 0 rfl rfl ?_
            refine v_getR X hd fl_X1_145 dX1_joiner_108 (fun v33 hd => ?_)
            refine v_aload_n X dX1_joiner_111 0 0 rfl rfl ?_
            refine v_getR X hd fl_X1_139 dX1_joiner_112 (fun v34 hd => ?_)
            refine v_iload_n X dX1_joiner_115 3 3 rfl rfl ?_
            refine v_iald X hd dX1_joiner_116 (fun v35 hd => ?_)
            refine v_aload_n X dX1_joiner_117 0 0 rfl rfl ?_
            refine v_getR X hd fl_X1_127 dX1_joiner_118 (fun v36 hd => ?_)
            refine v_aload_n X dX1_joiner_121 0 0 rfl rfl ?_
            refine v_getR X hd fl_X1_139 dX1_joiner_122 (fun v37 hd => ?_)
            refine v_iload_n X dX1_joiner_125 3 3 rfl rfl ?_
            refine v_iald X hd dX1_joiner_126 (fun v38 hd => ?_)
            refine v_iald X hd dX1_joiner_127 (fun v39 hd => ?_)
            refine v_iast X hd dX1_joiner_128 (fun h hd => ?_)
            exact v_loc [0, 1, 2, 3] rfl (v_at (P := fun (u31 : Unit) h => V K 6 h 129 [(0, .ref t), (1, .int e5), (2, .int s19), (3, .int s26)] []) hd KJ)
    have hle := (Mo.le hd2).tr hle
    clear hd2
    refine v_loc [2, 1, 0] rfl ?_
    refine loop_ind hd (fun (s2 : Int32 × Int32) h => V K 6 h 13 [(0, .ref t), (1, .int s2.1), (2, .int s2.2)] []) (fun s2 h x h2 hd hle0 ih3 ho4 => ?_)
    have hle := hle0.tr hle
    refine v_iload_n X dX1_joiner_13 2 2 rfl rfl ?_
    refine v_aload_n X dX1_joiner_14 0 0 rfl rfl ?_
    refine v_getR X hd fl_X1_90 dX1_joiner_15 (fun v6 hd => ?_)
    refine v_getR X hd fl_X1_243 dX1_joiner_18 (fun v7 hd => ?_)
    refine v_getI X hd fl_X1_247 dX1_joiner_21 (fun v8 hd => ?_)
    refine v_icmp_ge (tgt := 64) X dX1_joiner_24 (by decide) (fun q => ?_) (fun q => ?_)
    · have hd := ite_t q hd
      exact v_loc [0, 1] rfl (v_at (P := fun (e5 : Int32) h => V K 6 h 64 [(0, .ref t), (1, .int e5)] []) (lp_out hd ho4) KX)
    · have hd := ite_f q hd
      refine v_aload_n X dX1_joiner_27 0 0 rfl rfl ?_
      refine v_getR X hd fl_X1_127 dX1_joiner_28 (fun v9 hd => ?_)
      refine v_iload_n X dX1_joiner_31 2 2 rfl rfl ?_
      refine v_iald X hd dX1_joiner_32 (fun v10 hd => ?_)
      refine v_aload_n X dX1_joiner_33 0 0 rfl rfl ?_
      refine v_getR X hd fl_X1_90 dX1_joiner_34 (fun v11 hd => ?_)
      refine v_getR X hd fl_X1_286 dX1_joiner_37 (fun v12 hd => ?_)
      refine v_iload_n X dX1_joiner_40 2 2 rfl rfl ?_
      refine v_iald X hd dX1_joiner_41 (fun v13 hd => ?_)
      obtain ⟨u14, h1, hd, hd2⟩ := Mo.bind_some hd
      have KJ : V K 6 h1 58 [(0, .ref t), (1, .int u14), (2, .int s2.2)] [] := by
        clear hd
        have hd := hd2
        refine v_iincL (lv2 := fun v15 => [(2, .int v15), (0, .ref t), (1, .int u14)]) X hd dX1_joiner_58 2 rfl (by decide : Int32.ofInt 1 = 1) (by decide) (fun v15 => rfl) (fun v15 hd => ?_)
        refine v_goto (tgt := 13) X dX1_joiner_61 (by decide) ?_
        exact v_loc [1, 2, 0] rfl (lp_in (P := fun (s2 : Int32 × Int32) h => V K 6 h 13 [(0, .ref t), (1, .int s2.1), (2, .int s2.2)] []) hd ih3)
      have hle := (Mo.le hd2).tr hle
      clear hd2
      refine v_icmp_ne (tgt := 48) X dX1_joiner_42 (by decide) (fun q => ?_) (fun q => ?_)
      · have hd := ite_f q hd
        refine v_aload_n X dX1_joiner_48 0 0 rfl rfl ?_
        refine v_getR X hd fl_X1_139 dX1_joiner_49 (fun v16 hd => ?_)
        refine v_iload_n X dX1_joiner_52 1 1 rfl rfl ?_
        refine v_iload_n X dX1_joiner_53 2 2 rfl rfl ?_
        refine v_iast X hd dX1_joiner_54 (fun h hd => ?_)
        refine v_iincL (lv2 := fun v17 => [(1, .int v17), (0, .ref t), (2, .int s2.2)]) X hd dX1_joiner_55 1 rfl (by decide : Int32.ofInt 1 = 1) (by decide) (fun v17 => rfl) (fun v17 hd => ?_)
        exact v_loc [1, 0, 2] rfl (v_at (P := fun (u14 : Int32) h => V K 6 h 58 [(0, .ref t), (1, .int u14), (2, .int s2.2)] []) hd KJ)
      · have hd := ite_t q hd
        refine v_goto (tgt := 58) X dX1_joiner_45 (by decide) ?_
        exact v_loc [0, 1, 2] rfl (v_at (P := fun (u14 : Int32) h => V K 6 h 58 [(0, .ref t), (1, .int u14), (2, .int s2.2)] []) hd KJ)
  · have hd := cnd_f q hd
    refine v_iconst (v := (-1)) X dX1_joiner_7 (by decide) ?_
    exact v_iret X hd ho dX1_joiner_8
