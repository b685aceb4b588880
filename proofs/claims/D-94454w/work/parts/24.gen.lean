set_option maxRecDepth 100000
def dkwX11_leaf_7 : List UInt8 := [96, 21, 8, 21, 10, 104, 182, 0, 76, 132, 10, 1, 167, 255, 212, 132, 9, 1, 167, 255, 145, 25, 4, 176]
abbrev dktX11_leaf_7 : List UInt8 := dkwX11_leaf_7 ++ []
def dkwX11_leaf_6 : List UInt8 := [180, 0, 42, 4, 100, 184, 0, 80, 184, 0, 86, 163, 0, 28, 42, 25, 4, 21, 6, 21, 7, 21, 9, 104]
abbrev dktX11_leaf_6 : List UInt8 := dkwX11_leaf_6 ++ dktX11_leaf_7
def dkwX11_leaf_5 : List UInt8 := [182, 0, 76, 167, 0, 58, 4, 21, 9, 184, 0, 80, 54, 10, 21, 10, 21, 9, 4, 96, 4, 42]
abbrev dktX11_leaf_5 : List UInt8 := dkwX11_leaf_5 ++ dktX11_leaf_6
def dkwX11_leaf_4 : List UInt8 := [182, 0, 76, 167, 0, 80, 29, 154, 0, 21, 42, 25, 4, 21, 6, 21, 8, 21, 9, 4, 96, 104]
abbrev dktX11_leaf_4 : List UInt8 := dkwX11_leaf_4 ++ dktX11_leaf_5
def dkwX11_leaf_3 : List UInt8 := [180, 0, 42, 162, 0, 108, 28, 153, 0, 21, 42, 25, 4, 21, 6, 21, 7, 21, 9, 104, 96, 3]
abbrev dktX11_leaf_3 : List UInt8 := dkwX11_leaf_3 ++ dktX11_leaf_4
def dkwX11_leaf_2 : List UInt8 := [167, 0, 4, 4, 54, 7, 27, 5, 162, 0, 7, 2, 167, 0, 4, 4, 54, 8, 3, 54, 9, 21, 9, 42]
abbrev dktX11_leaf_2 : List UInt8 := dkwX11_leaf_2 ++ dktX11_leaf_3
def dkwX11_leaf_1 : List UInt8 := [21, 5, 153, 0, 12, 42, 180, 0, 42, 4, 100, 167, 0, 4, 3, 54, 6, 21, 5, 153, 0, 7, 2]
abbrev dktX11_leaf_1 : List UInt8 := dkwX11_leaf_1 ++ dktX11_leaf_2
def dkwX11_leaf_0 : List UInt8 := [187, 0, 9, 89, 183, 0, 58, 58, 4, 27, 5, 112, 4, 160, 0, 7, 4, 167, 0, 4, 3, 54, 5]
abbrev dktX11_leaf_0 : List UInt8 := dkwX11_leaf_0 ++ dktX11_leaf_1
theorem dksX11_leaf_0 : cX11_leaf.data.toList.drop 0 = dktX11_leaf_0 := by decide +kernel
theorem dksX11_leaf_1 : cX11_leaf.data.toList.drop 23 = dktX11_leaf_1 := dk_seg dksX11_leaf_0 23 rfl rfl
theorem dksX11_leaf_2 : cX11_leaf.data.toList.drop 46 = dktX11_leaf_2 := dk_seg dksX11_leaf_1 23 rfl rfl
theorem dksX11_leaf_3 : cX11_leaf.data.toList.drop 70 = dktX11_leaf_3 := dk_seg dksX11_leaf_2 24 rfl rfl
theorem dksX11_leaf_4 : cX11_leaf.data.toList.drop 92 = dktX11_leaf_4 := dk_seg dksX11_leaf_3 22 rfl rfl
theorem dksX11_leaf_5 : cX11_leaf.data.toList.drop 114 = dktX11_leaf_5 := dk_seg dksX11_leaf_4 22 rfl rfl
theorem dksX11_leaf_6 : cX11_leaf.data.toList.drop 136 = dktX11_leaf_6 := dk_seg dksX11_leaf_5 22 rfl rfl
theorem dksX11_leaf_7 : cX11_leaf.data.toList.drop 160 = dktX11_leaf_7 := dk_seg dksX11_leaf_6 24 rfl rfl
theorem dX11_leaf_0 : decode cX11_leaf 0 = .ok (.new 9, 3) := dk_187 0 9 (dk_at dksX11_leaf_0 0 rfl rfl)
theorem dX11_leaf_3 : decode cX11_leaf 3 = .ok (.dup, 1) := dk_89 (dk_at dksX11_leaf_0 3 rfl rfl)
theorem dX11_leaf_4 : decode cX11_leaf 4 = .ok (.invokespecial 58, 3) := dk_183 0 58 (dk_at dksX11_leaf_0 4 rfl rfl)
theorem dX11_leaf_7 : decode cX11_leaf 7 = .ok (.astore 4, 2) := dk_58 4 (dk_at dksX11_leaf_0 7 rfl rfl)
theorem dX11_leaf_9 : decode cX11_leaf 9 = .ok (.iload_n 1, 1) := dk_27 (dk_at dksX11_leaf_0 9 rfl rfl)
theorem dX11_leaf_10 : decode cX11_leaf 10 = .ok (.iconst 2, 1) := dk_5 (dk_at dksX11_leaf_0 10 rfl rfl)
theorem dX11_leaf_11 : decode cX11_leaf 11 = .ok (.irem, 1) := dk_112 (dk_at dksX11_leaf_0 11 rfl rfl)
theorem dX11_leaf_12 : decode cX11_leaf 12 = .ok (.iconst 1, 1) := dk_4 (dk_at dksX11_leaf_0 12 rfl rfl)
theorem dX11_leaf_13 : decode cX11_leaf 13 = .ok (.if_icmp .ne 7, 3) := dk_160 0 7 (dk_at dksX11_leaf_0 13 rfl rfl)
theorem dX11_leaf_16 : decode cX11_leaf 16 = .ok (.iconst 1, 1) := dk_4 (dk_at dksX11_leaf_0 16 rfl rfl)
theorem dX11_leaf_17 : decode cX11_leaf 17 = .ok (.goto 4, 3) := dk_167 0 4 (dk_at dksX11_leaf_0 17 rfl rfl)
theorem dX11_leaf_20 : decode cX11_leaf 20 = .ok (.iconst 0, 1) := dk_3 (dk_at dksX11_leaf_0 20 rfl rfl)
theorem dX11_leaf_21 : decode cX11_leaf 21 = .ok (.istore 5, 2) := dk_54 5 (dk_at dksX11_leaf_0 21 rfl rfl)
theorem dX11_leaf_23 : decode cX11_leaf 23 = .ok (.iload 5, 2) := dk_21 5 (dk_at dksX11_leaf_1 0 rfl rfl)
theorem dX11_leaf_25 : decode cX11_leaf 25 = .ok (.ifCond .eq 12, 3) := dk_153 0 12 (dk_at dksX11_leaf_1 2 rfl rfl)
theorem dX11_leaf_28 : decode cX11_leaf 28 = .ok (.aload_n 0, 1) := dk_42 (dk_at dksX11_leaf_1 5 rfl rfl)
theorem dX11_leaf_29 : decode cX11_leaf 29 = .ok (.getfield 42, 3) := dk_180 0 42 (dk_at dksX11_leaf_1 6 rfl rfl)
theorem dX11_leaf_32 : decode cX11_leaf 32 = .ok (.iconst 1, 1) := dk_4 (dk_at dksX11_leaf_1 9 rfl rfl)
theorem dX11_leaf_33 : decode cX11_leaf 33 = .ok (.isub, 1) := dk_100 (dk_at dksX11_leaf_1 10 rfl rfl)
theorem dX11_leaf_34 : decode cX11_leaf 34 = .ok (.goto 4, 3) := dk_167 0 4 (dk_at dksX11_leaf_1 11 rfl rfl)
theorem dX11_leaf_37 : decode cX11_leaf 37 = .ok (.iconst 0, 1) := dk_3 (dk_at dksX11_leaf_1 14 rfl rfl)
theorem dX11_leaf_38 : decode cX11_leaf 38 = .ok (.istore 6, 2) := dk_54 6 (dk_at dksX11_leaf_1 15 rfl rfl)
theorem dX11_leaf_40 : decode cX11_leaf 40 = .ok (.iload 5, 2) := dk_21 5 (dk_at dksX11_leaf_1 17 rfl rfl)
theorem dX11_leaf_42 : decode cX11_leaf 42 = .ok (.ifCond .eq 7, 3) := dk_153 0 7 (dk_at dksX11_leaf_1 19 rfl rfl)
theorem dX11_leaf_45 : decode cX11_leaf 45 = .ok (.iconst (-1), 1) := dk_2 (dk_at dksX11_leaf_1 22 rfl rfl)
theorem dX11_leaf_46 : decode cX11_leaf 46 = .ok (.goto 4, 3) := dk_167 0 4 (dk_at dksX11_leaf_2 0 rfl rfl)
theorem dX11_leaf_49 : decode cX11_leaf 49 = .ok (.iconst 1, 1) := dk_4 (dk_at dksX11_leaf_2 3 rfl rfl)
theorem dX11_leaf_50 : decode cX11_leaf 50 = .ok (.istore 7, 2) := dk_54 7 (dk_at dksX11_leaf_2 4 rfl rfl)
theorem dX11_leaf_52 : decode cX11_leaf 52 = .ok (.iload_n 1, 1) := dk_27 (dk_at dksX11_leaf_2 6 rfl rfl)
theorem dX11_leaf_53 : decode cX11_leaf 53 = .ok (.iconst 2, 1) := dk_5 (dk_at dksX11_leaf_2 7 rfl rfl)
theorem dX11_leaf_54 : decode cX11_leaf 54 = .ok (.if_icmp .ge 7, 3) := dk_162 0 7 (dk_at dksX11_leaf_2 8 rfl rfl)
theorem dX11_leaf_57 : decode cX11_leaf 57 = .ok (.iconst (-1), 1) := dk_2 (dk_at dksX11_leaf_2 11 rfl rfl)
theorem dX11_leaf_58 : decode cX11_leaf 58 = .ok (.goto 4, 3) := dk_167 0 4 (dk_at dksX11_leaf_2 12 rfl rfl)
theorem dX11_leaf_61 : decode cX11_leaf 61 = .ok (.iconst 1, 1) := dk_4 (dk_at dksX11_leaf_2 15 rfl rfl)
theorem dX11_leaf_62 : decode cX11_leaf 62 = .ok (.istore 8, 2) := dk_54 8 (dk_at dksX11_leaf_2 16 rfl rfl)
theorem dX11_leaf_64 : decode cX11_leaf 64 = .ok (.iconst 0, 1) := dk_3 (dk_at dksX11_leaf_2 18 rfl rfl)
theorem dX11_leaf_65 : decode cX11_leaf 65 = .ok (.istore 9, 2) := dk_54 9 (dk_at dksX11_leaf_2 19 rfl rfl)
theorem dX11_leaf_67 : decode cX11_leaf 67 = .ok (.iload 9, 2) := dk_21 9 (dk_at dksX11_leaf_2 21 rfl rfl)
theorem dX11_leaf_69 : decode cX11_leaf 69 = .ok (.aload_n 0, 1) := dk_42 (dk_at dksX11_leaf_2 23 rfl rfl)
theorem dX11_leaf_70 : decode cX11_leaf 70 = .ok (.getfield 42, 3) := dk_180 0 42 (dk_at dksX11_leaf_3 0 rfl rfl)
theorem dX11_leaf_73 : decode cX11_leaf 73 = .ok (.if_icmp .ge 108, 3) := dk_162 0 108 (dk_at dksX11_leaf_3 3 rfl rfl)
theorem dX11_leaf_76 : decode cX11_leaf 76 = .ok (.iload_n 2, 1) := dk_28 (dk_at dksX11_leaf_3 6 rfl rfl)
theorem dX11_leaf_77 : decode cX11_leaf 77 = .ok (.ifCond .eq 21, 3) := dk_153 0 21 (dk_at dksX11_leaf_3 7 rfl rfl)
theorem dX11_leaf_80 : decode cX11_leaf 80 = .ok (.aload_n 0, 1) := dk_42 (dk_at dksX11_leaf_3 10 rfl rfl)
theorem dX11_leaf_81 : decode cX11_leaf 81 = .ok (.aload 4, 2) := dk_25 4 (dk_at dksX11_leaf_3 11 rfl rfl)
theorem dX11_leaf_83 : decode cX11_leaf 83 = .ok (.iload 6, 2) := dk_21 6 (dk_at dksX11_leaf_3 13 rfl rfl)
theorem dX11_leaf_85 : decode cX11_leaf 85 = .ok (.iload 7, 2) := dk_21 7 (dk_at dksX11_leaf_3 15 rfl rfl)
theorem dX11_leaf_87 : decode cX11_leaf 87 = .ok (.iload 9, 2) := dk_21 9 (dk_at dksX11_leaf_3 17 rfl rfl)
theorem dX11_leaf_89 : decode cX11_leaf 89 = .ok (.imul, 1) := dk_104 (dk_at dksX11_leaf_3 19 rfl rfl)
theorem dX11_leaf_90 : decode cX11_leaf 90 = .ok (.iadd, 1) := dk_96 (dk_at dksX11_leaf_3 20 rfl rfl)
theorem dX11_leaf_91 : decode cX11_leaf 91 = .ok (.iconst 0, 1) := dk_3 (dk_at dksX11_leaf_3 21 rfl rfl)
theorem dX11_leaf_92 : decode cX11_leaf 92 = .ok (.invokevirtual 76, 3) := dk_182 0 76 (dk_at dksX11_leaf_4 0 rfl rfl)
theorem dX11_leaf_95 : decode cX11_leaf 95 = .ok (.goto 80, 3) := dk_167 0 80 (dk_at dksX11_leaf_4 3 rfl rfl)
theorem dX11_leaf_98 : decode cX11_leaf 98 = .ok (.iload_n 3, 1) := dk_29 (dk_at dksX11_leaf_4 6 rfl rfl)
theorem dX11_leaf_99 : decode cX11_leaf 99 = .ok (.ifCond .ne 21, 3) := dk_154 0 21 (dk_at dksX11_leaf_4 7 rfl rfl)
theorem dX11_leaf_102 : decode cX11_leaf 102 = .ok (.aload_n 0, 1) := dk_42 (dk_at dksX11_leaf_4 10 rfl rfl)
theorem dX11_leaf_103 : decode cX11_leaf 103 = .ok (.aload 4, 2) := dk_25 4 (dk_at dksX11_leaf_4 11 rfl rfl)
theorem dX11_leaf_105 : decode cX11_leaf 105 = .ok (.iload 6, 2) := dk_21 6 (dk_at dksX11_leaf_4 13 rfl rfl)
theorem dX11_leaf_107 : decode cX11_leaf 107 = .ok (.iload 8, 2) := dk_21 8 (dk_at dksX11_leaf_4 15 rfl rfl)
theorem dX11_leaf_109 : decode cX11_leaf 109 = .ok (.iload 9, 2) := dk_21 9 (dk_at dksX11_leaf_4 17 rfl rfl)
theorem dX11_leaf_111 : decode cX11_leaf 111 = .ok (.iconst 1, 1) := dk_4 (dk_at dksX11_leaf_4 19 rfl rfl)
theorem dX11_leaf_112 : decode cX11_leaf 112 = .ok (.iadd, 1) := dk_96 (dk_at dksX11_leaf_4 20 rfl rfl)
theorem dX11_leaf_113 : decode cX11_leaf 113 = .ok (.imul, 1) := dk_104 (dk_at dksX11_leaf_4 21 rfl rfl)
theorem dX11_leaf_114 : decode cX11_leaf 114 = .ok (.invokevirtual 76, 3) := dk_182 0 76 (dk_at dksX11_leaf_5 0 rfl rfl)
theorem dX11_leaf_117 : decode cX11_leaf 117 = .ok (.goto 58, 3) := dk_167 0 58 (dk_at dksX11_leaf_5 3 rfl rfl)
theorem dX11_leaf_120 : decode cX11_leaf 120 = .ok (.iconst 1, 1) := dk_4 (dk_at dksX11_leaf_5 6 rfl rfl)
theorem dX11_leaf_121 : decode cX11_leaf 121 = .ok (.iload 9, 2) := dk_21 9 (dk_at dksX11_leaf_5 7 rfl rfl)
theorem dX11_leaf_123 : decode cX11_leaf 123 = .ok (.invokestatic 80, 3) := dk_184 0 80 (dk_at dksX11_leaf_5 9 rfl rfl)
theorem dX11_leaf_126 : decode cX11_leaf 126 = .ok (.istore 10, 2) := dk_54 10 (dk_at dksX11_leaf_5 12 rfl rfl)
theorem dX11_leaf_128 : decode cX11_leaf 128 = .ok (.iload 10, 2) := dk_21 10 (dk_at dksX11_leaf_5 14 rfl rfl)
theorem dX11_leaf_130 : decode cX11_leaf 130 = .ok (.iload 9, 2) := dk_21 9 (dk_at dksX11_leaf_5 16 rfl rfl)
theorem dX11_leaf_132 : decode cX11_leaf 132 = .ok (.iconst 1, 1) := dk_4 (dk_at dksX11_leaf_5 18 rfl rfl)
theorem dX11_leaf_133 : decode cX11_leaf 133 = .ok (.iadd, 1) := dk_96 (dk_at dksX11_leaf_5 19 rfl rfl)
theorem dX11_leaf_134 : decode cX11_leaf 134 = .ok (.iconst 1, 1) := dk_4 (dk_at dksX11_leaf_5 20 rfl rfl)
theorem dX11_leaf_135 : decode cX11_leaf 135 = .ok (.aload_n 0, 1) := dk_42 (dk_at dksX11_leaf_5 21 rfl rfl)
theorem dX11_leaf_136 : decode cX11_leaf 136 = .ok (.getfield 42, 3) := dk_180 0 42 (dk_at dksX11_leaf_6 0 rfl rfl)
theorem dX11_leaf_139 : decode cX11_leaf 139 = .ok (.iconst 1, 1) := dk_4 (dk_at dksX11_leaf_6 3 rfl rfl)
theorem dX11_leaf_140 : decode cX11_leaf 140 = .ok (.isub, 1) := dk_100 (dk_at dksX11_leaf_6 4 rfl rfl)
theorem dX11_leaf_141 : decode cX11_leaf 141 = .ok (.invokestatic 80, 3) := dk_184 0 80 (dk_at dksX11_leaf_6 5 rfl rfl)
theorem dX11_leaf_144 : decode cX11_leaf 144 = .ok (.invokestatic 86, 3) := dk_184 0 86 (dk_at dksX11_leaf_6 8 rfl rfl)
theorem dX11_leaf_147 : decode cX11_leaf 147 = .ok (.if_icmp .gt 28, 3) := dk_163 0 28 (dk_at dksX11_leaf_6 11 rfl rfl)
theorem dX11_leaf_150 : decode cX11_leaf 150 = .ok (.aload_n 0, 1) := dk_42 (dk_at dksX11_leaf_6 14 rfl rfl)
theorem dX11_leaf_151 : decode cX11_leaf 151 = .ok (.aload 4, 2) := dk_25 4 (dk_at dksX11_leaf_6 15 rfl rfl)
theorem dX11_leaf_153 : decode cX11_leaf 153 = .ok (.iload 6, 2) := dk_21 6 (dk_at dksX11_leaf_6 17 rfl rfl)
theorem dX11_leaf_155 : decode cX11_leaf 155 = .ok (.iload 7, 2) := dk_21 7 (dk_at dksX11_leaf_6 19 rfl rfl)
theorem dX11_leaf_157 : decode cX11_leaf 157 = .ok (.iload 9, 2) := dk_21 9 (dk_at dksX11_leaf_6 21 rfl rfl)
theorem dX11_leaf_159 : decode cX11_leaf 159 = .ok (.imul, 1) := dk_104 (dk_at dksX11_leaf_6 23 rfl rfl)
theorem dX11_leaf_160 : decode cX11_leaf 160 = .ok (.iadd, 1) := dk_96 (dk_at dksX11_leaf_7 0 rfl rfl)
theorem dX11_leaf_161 : decode cX11_leaf 161 = .ok (.iload 8, 2) := dk_21 8 (dk_at dksX11_leaf_7 1 rfl rfl)
theorem dX11_leaf_163 : decode cX11_leaf 163 = .ok (.iload 10, 2) := dk_21 10 (dk_at dksX11_leaf_7 3 rfl rfl)
theorem dX11_leaf_165 : decode cX11_leaf 165 = .ok (.imul, 1) := dk_104 (dk_at dksX11_leaf_7 5 rfl rfl)
theorem dX11_leaf_166 : decode cX11_leaf 166 = .ok (.invokevirtual 76, 3) := dk_182 0 76 (dk_at dksX11_leaf_7 6 rfl rfl)
theorem dX11_leaf_169 : decode cX11_leaf 169 = .ok (.iinc 10 1, 3) := dk_132 10 1 (dk_at dksX11_leaf_7 9 rfl rfl)
theorem dX11_leaf_172 : decode cX11_leaf 172 = .ok (.goto (-44), 3) := dk_167 255 212 (dk_at dksX11_leaf_7 12 rfl rfl)
theorem dX11_leaf_175 : decode cX11_leaf 175 = .ok (.iinc 9 1, 3) := dk_132 9 1 (dk_at dksX11_leaf_7 15 rfl rfl)
theorem dX11_leaf_178 : decode cX11_leaf 178 = .ok (.goto (-111), 3) := dk_167 255 145 (dk_at dksX11_leaf_7 18 rfl rfl)
theorem dX11_leaf_181 : decode cX11_leaf 181 = .ok (.aload 4, 2) := dk_25 4 (dk_at dksX11_leaf_7 21 rfl rfl)
theorem dX11_leaf_183 : decode cX11_leaf 183 = .ok (.areturn, 1) := dk_176 (dk_at dksX11_leaf_7 23 rfl rfl)
theorem fl_X11_42 : gFl "BitingDoors$Door" 42 [9] 3 := by
  intro args s hts hN ci hc
  simp only [List.mem_cons, List.not_mem_nil, or_false] at hc
  subst hc
  exact ⟨RX11, TX11, 12, "BitingDoors$Door", gCl_X11, in_X11, by decide, Or.inl (hts _ q845), fun _ h => h⟩
theorem nw_X11_9 : gNw "BitingDoors$Door" 9 10 5 [.null, .int 0, .long 0, .long 0, .int 0] := ⟨RX12, TX12, tyX12, gCl_X12, in_X12, tyX12_ok, q837, q932, q126, by decide, rfl⟩
theorem dn_X11_leaf : yX11_leaf.cls ≠ "java/lang/invoke/MethodHandle" ∧ yX11_leaf.cls ≠ "java/lang/invoke/VarHandle" ∧ (parseMethodDescriptor yX11_leaf.desc).map (fun d => d.parameters.length) = some 3 := by decide +kernel
noncomputable def M_X11_leaf (t : Nat) (p1 : Int32) (p2 : Bool) (p3 : Bool) : Mo Nat := Mo.bind (chk [9] t) (fun _ => Mo.bind (nw 10 5 [.null, .int 0, .long 0, .long 0, .int 0]) (fun q1 => Mo.bind (M_X12_init q1) (fun v2 => Mo.bind ((if (p1 - p1 / 2 * 2) = 1 then Mo.pure true else Mo.pure false : Mo (Bool))) (fun u3 => Mo.bind ((cond u3 (Mo.bind (gI [9] t 3) (fun v24 => Mo.pure (v24 - 1))) (Mo.pure 0) : Mo (Int32))) (fun u4 => Mo.bind ((cond u3 (Mo.pure (-1)) (Mo.pure 1) : Mo (Int32))) (fun u5 => Mo.bind ((if 2 ≤ p1 then Mo.pure 1 else Mo.pure (-1) : Mo (Int32))) (fun u6 => Mo.bind (Mo.loop (S := Int32) (E := Unit) (fun s7 => Mo.bind (gI [9] t 3) (fun v11 => if v11 ≤ s7 then Mo.pure (Sum.inr ()) else Mo.bind ((cond p2 (Mo.bind (M_X11_put t q1 (u4 + (u5 * s7)) 0) (fun v23 => Mo.pure ())) (cond p3 (Mo.lv (if 1 < s7 then s7 else 1) (fun v14 => Mo.bind (Mo.loop (S := Int32) (E := Unit) (fun s15 => Mo.bind (gI [9] t 3) (fun v19 => if (if (if 1 < (v19 - 1) then (v19 - 1) else 1) < (s7 + 1) then (if 1 < (v19 - 1) then (v19 - 1) else 1) else (s7 + 1)) < s15 then Mo.pure (Sum.inr ()) else Mo.bind (M_X11_put t q1 (u4 + (u5 * s7)) (u6 * s15)) (fun v20 => Mo.lv (s15 + 1) (fun v21 => Mo.pure (Sum.inl v21))))) v14) (fun e18 => Mo.pure ()))) (Mo.bind (M_X11_put t q1 u4 (u6 * (s7 + 1))) (fun v22 => Mo.pure ()))) : Mo (Unit))) (fun u12 => Mo.lv (s7 + 1) (fun v13 => Mo.pure (Sum.inl v13))))) 0) (fun e10 => Mo.pure q1))))))))
set_option maxHeartbeats 4000000 in
theorem ct_X11_leaf (G : gG) (t : Nat) (p1 : Int32) (p2 : Bool) (p3 : Bool) : gCt G yX11_leaf cX11_leaf 11 (some (.object "BitingDoors$Cells")) 3 67 [.ref t, .int p1, .int (b2i p2), .int (b2i p3)] (M_X11_leaf t p1 p2 p3) (fun x : Nat => some (.ref x)) := by
  refine gCt.of (by decide) (Nat.le_of_ble_eq_true rfl) (fun K r hG X hd ho => ?_)
  subst hG
  have X : gX K cX11_leaf 11 "BitingDoors$Door" "leaf" (some (.object "BitingDoors$Cells")) 3 67 := X
  have hle : gLe (kh1 K) (kh1 K) := gLe.rf
  show V K 11 (kh0 K) 0 [(0, .ref t), (1, .int p1), (2, .int (b2i p2)), (3, .int (b2i p3))] []
  generalize kh0 K = h at hd ⊢
  unfold M_X11_leaf at hd
  obtain ⟨-, hd⟩ := chk_some hd
  refine v_new X hd hle nw_X11_9 dX11_leaf_0 (fun q1 h hd => ?_)
  refine v_dup X dX11_leaf_3 rfl ?_
  refine v_callIN (host := "BitingDoors") X hd hle (ct_X12_init _ q1) (List.mem_of_getElem? (i := 11) rfl) q935 q126 q934 rfl dn_X12_init rfl ⟨by decide, by decide⟩ rfl (Nat.le_of_ble_eq_true rfl) dX11_leaf_4 (fun v2 h hd => ?_)
  show V K 11 h 7 [(0, .ref t), (1, .int p1), (2, .int (b2i p2)), (3, .int (b2i p3))] [.ref q1]
  refine v_astore (lv2 := [(4, .ref q1), (0, .ref t), (1, .int p1), (2, .int (b2i p2)), (3, .int (b2i p3))]) X dX11_leaf_7 (by decide) rfl ?_
  refine v_iload_n X dX11_leaf_9 2 1 rfl rfl ?_
  refine v_iconst (v := 2) X dX11_leaf_10 (by decide) ?_
  refine v_irem X dX11_leaf_11 (by decide) ?_
  refine v_iconst (v := 1) X dX11_leaf_12 (by decide) ?_
  obtain ⟨u3, h1, hd, hd2⟩ := Mo.bind_some hd
  have KJ : V K 11 h1 21 [(0, .ref t), (1, .int p1), (2, .int (b2i p2)), (3, .int (b2i p3)), (4, .ref q1)] [.int (b2i u3)] := by
    clear hd
    have hd := hd2
    refine v_istore (lv2 := [(5, .int (b2i u3)), (0, .ref t), (1, .int p1), (2, .int (b2i p2)), (3, .int (b2i p3)), (4, .ref q1)]) X dX11_leaf_21 (by decide) rfl ?_
    refine v_iload X dX11_leaf_23 0 rfl ?_
    obtain ⟨u4, h1, hd, hd2⟩ := Mo.bind_some hd
    have KJ : V K 11 h1 38 [(0, .ref t), (1, .int p1), (2, .int (b2i p2)), (3, .int (b2i p3)), (4, .ref q1), (5, .int (b2i u3))] [.int u4] := by
      clear hd
      have hd := hd2
      refine v_istore (lv2 := [(6, .int u4), (0, .ref t), (1, .int p1), (2, .int (b2i p2)), (3, .int (b2i p3)), (4, .ref q1), (5, .int (b2i u3))]) X dX11_leaf_38 (by decide) rfl ?_
      refine v_iload X dX11_leaf_40 6 rfl ?_
      obtain ⟨u5, h1, hd, hd2⟩ := Mo.bind_some hd
      have KJ : V K 11 h1 50 [(0, .ref t), (1, .int p1), (2, .int (b2i p2)), (3, .int (b2i p3)), (4, .ref q1), (6, .int u4)] [.int u5] := by
        clear hd
        have hd := hd2
        refine v_istore (lv2 := [(7, .int u5), (0, .ref t), (1, .int p1), (2, .int (b2i p2)), (3, .int (b2i p3)), (4, .ref q1), (6, .int u4)]) X dX11_leaf_50 (by decide) rfl ?_
        refine v_iload_n X dX11_leaf_52 2 1 rfl rfl ?_
        refine v_iconst (v := 2) X dX11_leaf_53 (by decide) ?_
        obtain ⟨u6, h1, hd, hd2⟩ := Mo.bind_some hd
        have KJ : V K 11 h1 62 [(0, .ref t), (2, .int (b2i p2)), (3, .int (b2i p3)), (4, .ref q1), (6, .int u4), (7, .int u5)] [.int u6] := by
          clear hd
          have hd := hd2
          refine v_istore (lv2 := [(8, .int u6), (0, .ref t), (2, .int (b2i p2)), (3, .int (b2i p3)), (4, .ref q1), (6, .int u4), (7, .int u5)]) X dX11_leaf_62 (by decide) rfl ?_
          refine v_iconst (v := 0) X dX11_leaf_64 (by decide) ?_
          refine v_istore (lv2 := [(9, .int 0), (8, .int u6), (0, .ref t), (2, .int (b2i p2)), (3, .int (b2i p3)), (4, .ref q1), (6, .int u4), (7, .int u5)]) X dX11_leaf_65 (by decide) rfl ?_
          obtain ⟨e10, h1, hd, hd2⟩ := Mo.bind_some hd
          have KX : V K 11 h1 181 [(4, .ref q1)] [] := by
            clear hd
            have hd := hd2
            refine v_aload X dX11_leaf_181 0 rfl ?_
            exact v_aret X rfl (Or.inl ⟨_, rfl⟩) hd ho dX11_leaf_183
          have hle := (Mo.le hd2).tr hle
          clear hd2
          refine v_loc [2, 3, 4, 5, 6, 7, 1, 0] rfl ?_
          refine loop_ind hd (fun (s7 : Int32) h => V K 11 h 67 [(0, .ref t), (2, .int (b2i p2)), (3, .int (b2i p3)), (4, .ref q1), (6, .int u4), (7, .int u5), (8, .int u6), (9, .int s7)] []) (fun s7 h x h2 hd hle0 ih8 ho9 => ?_)
          have hle := hle0.tr hle
          refine v_iload X dX11_leaf_67 7 rfl ?_
          refine v_aload_n X dX11_leaf_69 0 0 rfl rfl ?_
          refine v_getI X hd fl_X11_42 dX11_leaf_70 (fun v11 hd => ?_)
          refine v_icmp_ge (tgt := 181) X dX11_leaf_73 (by decide) (fun q => ?_) (fun q => ?_)
          · have hd := ite_t q hd
            exact v_loc [3] rfl (v_at (P := fun (e10 : Unit) h => V K 11 h 181 [(4, .ref q1)] []) (lp_out hd ho9) KX)
          · have hd := ite_f q hd
            refine v_iload_n X dX11_leaf_76 1 2 rfl rfl ?_
            obtain ⟨u12, h1, hd, hd2⟩ := Mo.bind_some hd
            have KJ : V K 11 h1 175 [(0, .ref t), (2, .int (b2i p2)), (3, .int (b2i p3)), (4, .ref q1), (6, .int u4), (7, .int u5), (8, .int u6), (9, .int s7)] [] := by
              clear hd
              have hd := hd2
              refine v_iincL (lv2 := fun v13 => [(9, .int v13), (0, .ref t), (2, .int (b2i p2)), (3, .int (b2i p3)), (4, .ref q1), (6, .int u4), (7, .int u5), (8, .int u6)]) X hd dX11_leaf_175 7 rfl (by decide : Int32.ofInt 1 = 1) (by decide) (fun v13 => rfl) (fun v13 hd => ?_)
              refine v_goto (tgt := 67) X dX11_leaf_178 (by decide) ?_
              exact v_loc [1, 2, 3, 4, 5, 6, 7, 0] rfl (lp_in (P := fun (s7 : Int32) h => V K 11 h 67 [(0, .ref t), (2, .int (b2i p2)), (3, .int (b2i p3)), (4, .ref q1), (6, .int u4), (7, .int u5), (8, .int u6), (9, .int s7)] []) hd ih8)
            have hle := (Mo.le hd2).tr hle
            clear hd2
            refine v_ifZ_eq (tgt := 98) X dX11_leaf_77 (by decide) (fun q => ?_) (fun q => ?_)
            · have hd := cnd_f q hd
              refine v_iload_n X dX11_leaf_98 2 3 rfl rfl ?_
              refine v_ifZ_ne (tgt := 120) X dX11_leaf_99 (by decide) (fun q => ?_) (fun q => ?_)
              · have hd := cnd_t q hd
                refine v_iconst (v := 1) X dX11_leaf_120 (by decide) ?_
                refine v_iload X dX11_leaf_121 7 rfl ?_
                refine v_mmax X hd hle q972 q973 q127 q974 (by decide +kernel) (Nat.le_of_ble_eq_true rfl) (by decide) (by decide) dX11_leaf_123 ?_
                refine v_lvI hd (fun v14 hd => ?_)
                refine v_istore (lv2 := [(10, .int v14), (0, .ref t), (2, .int (b2i p2)), (3, .int (b2i p3)), (4, .ref q1), (6, .int u4), (7, .int u5), (8, .int u6), (9, .int s7)]) X dX11_leaf_126 (by decide) rfl ?_
                obtain ⟨e18, h1, hd, hd2⟩ := Mo.bind_some hd
                have KX : V K 11 h1 175 [(0, .ref t), (2, .int (b2i p2)), (3, .int (b2i p3)), (4, .ref q1), (6, .int u4), (7, .int u5), (8, .int u6), (9, .int s7)] [] := by
                  clear hd
                  have hd := hd2
                  exact v_loc [0, 1, 2, 3, 4, 5, 6, 7] rfl (v_at (P := fun (u12 : Unit) h => V K 11 h 175 [(0, .ref t), (2, .int (b2i p2)), (3, .int (b2i p3)), (4, .ref q1), (6, .int u4), (7, .int u5), (8, .int u6), (9, .int s7)] []) hd KJ)
                have hle := (Mo.le hd2).tr hle
                clear hd2
                refine v_loc [1, 2, 3, 4, 5, 6, 7, 8, 0] rfl ?_
                refine loop_ind hd (fun (s15 : Int32) h => V K 11 h 128 [(0, .ref t), (2, .int (b2i p2)), (3, .int (b2i p3)), (4, .ref q1), (6, .int u4), (7, .int u5), (8, .int u6), (9, .int s7), (10, .int s15)] []) (fun s15 h x h2 hd hle0 ih16 ho17 => ?_)
                have hle := hle0.tr hle
                refine v_iload X dX11_leaf_128 8 rfl ?_
                refine v_iload X dX11_leaf_130 7 rfl ?_
                refine v_iconst (v := 1) X dX11_leaf_132 (by decide) ?_
                refine v_iadd X dX11_leaf_133 ?_
                refine v_iconst (v := 1) X dX11_leaf_134 (by decide) ?_
                refine v_aload_n X dX11_leaf_135 0 0 rfl rfl ?_
                refine v_getI X hd fl_X11_42 dX11_leaf_136 (fun v19 hd => ?_)
                refine v_iconst (v := 1) X dX11_leaf_139 (by decide) ?_
                refine v_isub X dX11_leaf_140 ?_
                refine v_mmax X hd hle q972 q973 q127 q974 (by decide +kernel) (Nat.le_of_ble_eq_true rfl) (by decide) (by decide) dX11_leaf_141 ?_
                refine v_mmin X hd hle q975 q976 q127 q977 (by decide +kernel) (Nat.le_of_ble_eq_true rfl) (by decide) (by decide) dX11_leaf_144 ?_
                refine v_icmp_gt (tgt := 175) X dX11_leaf_147 (by decide) (fun q => ?_) (fun q => ?_)
                · have hd := ite_t q hd
                  exact v_loc [0, 1, 2, 3, 4, 5, 6, 7] rfl (v_at (P := fun (e18 : Unit) h => V K 11 h 175 [(0, .ref t), (2, .int (b2i p2)), (3, .int (b2i p3)), (4, .ref q1), (6, .int u4), (7, .int u5), (8, .int u6), (9, .int s7)] []) (lp_out hd ho17) KX)
                · have hd := ite_f q hd
                  refine v_aload_n X dX11_leaf_150 0 0 rfl rfl ?_
                  refine v_aload X dX11_leaf_151 3 rfl ?_
                  refine v_iload X dX11_leaf_153 4 rfl ?_
                  refine v_iload X dX11_leaf_155 5 rfl ?_
                  refine v_iload X dX11_leaf_157 7 rfl ?_
                  refine v_imul X dX11_leaf_159 ?_
                  refine v_iadd X dX11_leaf_160 ?_
                  refine v_iload X dX11_leaf_161 6 rfl ?_
                  refine v_iload X dX11_leaf_163 8 rfl ?_
                  refine v_imul X dX11_leaf_165 ?_
                  refine v_callV X hd hle (ct_X11_put _ t q1 (u4 + (u5 * s7)) (u6 * s15)) gCl_X11 (lw_V q955 q957 qs9 q125 q958) ⟨rfl, dn_X11_put⟩ rfl ⟨by decide, by decide⟩ rfl (Nat.le_of_ble_eq_true rfl) dX11_leaf_166 (fun v20 h hd => ?_)
                  show V K 11 h 169 [(0, .ref t), (2, .int (b2i p2)), (3, .int (b2i p3)), (4, .ref q1), (6, .int u4), (7, .int u5), (8, .int u6), (9, .int s7), (10, .int s15)] []
                  refine v_iincL (lv2 := fun v21 => [(10, .int v21), (0, .ref t), (2, .int (b2i p2)), (3, .int (b2i p3)), (4, .ref q1), (6, .int u4), (7, .int u5), (8, .int u6), (9, .int s7)]) X hd dX11_leaf_169 8 rfl (by decide : Int32.ofInt 1 = 1) (by decide) (fun v21 => rfl) (fun v21 hd => ?_)
                  refine v_goto (tgt := 128) X dX11_leaf_172 (by decide) ?_
                  exact v_loc [1, 2, 3, 4, 5, 6, 7, 8, 0] rfl (lp_in (P := fun (s15 : Int32) h => V K 11 h 128 [(0, .ref t), (2, .int (b2i p2)), (3, .int (b2i p3)), (4, .ref q1), (6, .int u4), (7, .int u5), (8, .int u6), (9, .int s7), (10, .int s15)] []) hd ih16)
              · have hd := cnd_f q hd
                refine v_aload_n X dX11_leaf_102 0 0 rfl rfl ?_
                refine v_aload X dX11_leaf_103 3 rfl ?_
                refine v_iload X dX11_leaf_105 4 rfl ?_
                refine v_iload X dX11_leaf_107 6 rfl ?_
                refine v_iload X dX11_leaf_109 7 rfl ?_
                refine v_iconst (v := 1) X dX11_leaf_111 (by decide) ?_
                refine v_iadd X dX11_leaf_112 ?_
                refine v_imul X dX11_leaf_113 ?_
                refine v_callV X hd hle (ct_X11_put _ t q1 u4 (u6 * (s7 + 1))) gCl_X11 (lw_V q955 q957 qs9 q125 q958) ⟨rfl, dn_X11_put⟩ rfl ⟨by decide, by decide⟩ rfl (Nat.le_of_ble_eq_true rfl) dX11_leaf_114 (fun v22 h hd => ?_)
                show V K 11 h 117 [(0, .ref t), (2, .int (b2i p2)), (3, .int (b2i p3)), (4, .ref q1), (6, .int u4), (7, .int u5), (8, .int u6), (9, .int s7)] []
                refine v_goto (tgt := 175) X dX11_leaf_117 (by decide) ?_
                exact v_loc [0, 1, 2, 3, 4, 5, 6, 7] rfl (v_at (P := fun (u12 : Unit) h => V K 11 h 175 [(0, .ref t), (2, .int (b2i p2)), (3, .int (b2i p3)), (4, .ref q1), (6, .int u4), (7, .int u5), (8, .int u6), (9, .int s7)] []) hd KJ)
            · have hd := cnd_t q hd
              refine v_aload_n X dX11_leaf_80 0 0 rfl rfl ?_
              refine v_aload X dX11_leaf_81 3 rfl ?_
              refine v_iload X dX11_leaf_83 4 rfl ?_
              refine v_iload X dX11_leaf_85 5 rfl ?_
              refine v_iload X dX11_leaf_87 7 rfl ?_
              refine v_imul X dX11_leaf_89 ?_
              refine v_iadd X dX11_leaf_90 ?_
              refine v_iconst (v := 0) X dX11_leaf_91 (by decide) ?_
              refine v_callV X hd hle (ct_X11_put _ t q1 (u4 + (u5 * s7)) 0) gCl_X11 (lw_V q955 q957 qs9 q125 q958) ⟨rfl, dn_X11_put⟩ rfl ⟨by decide, by decide⟩ rfl (Nat.le_of_ble_eq_true rfl) dX11_leaf_92 (fun v23 h hd => ?_)
              show V K 11 h 95 [(0, .ref t), (2, .int (b2i p2)), (3, .int (b2i p3)), (4, .ref q1), (6, .int u4), (7, .int u5), (8, .int u6), (9, .int s7)] []
              refine v_goto (tgt := 175) X dX11_leaf_95 (by decide) ?_
              exact v_loc [0, 1, 2, 3, 4, 5, 6, 7] rfl (v_at (P := fun (u12 : Unit) h => V K 11 h 175 [(0, .ref t), (2, .int (b2i p2)), (3, .int (b2i p3)), (4, .ref q1), (6, .int u4), (7, .int u5), (8, .int u6), (9, .int s7)] []) hd KJ)
        have hle := (Mo.le hd2).tr hle
        clear hd2
        refine v_icmp_ge (tgt := 61) X dX11_leaf_54 (by decide) (fun q => ?_) (fun q => ?_)
        · have hd := ite_t q hd
          refine v_iconst (v := 1) X dX11_leaf_61 (by decide) ?_
          exact v_loc [1, 3, 4, 5, 6, 0] rfl (v_at (P := fun (u6 : Int32) h => V K 11 h 62 [(0, .ref t), (2, .int (b2i p2)), (3, .int (b2i p3)), (4, .ref q1), (6, .int u4), (7, .int u5)] [.int u6]) hd KJ)
        · have hd := ite_f q hd
          refine v_iconst (v := (-1)) X dX11_leaf_57 (by decide) ?_
          refine v_goto (tgt := 62) X dX11_leaf_58 (by decide) ?_
          exact v_loc [1, 3, 4, 5, 6, 0] rfl (v_at (P := fun (u6 : Int32) h => V K 11 h 62 [(0, .ref t), (2, .int (b2i p2)), (3, .int (b2i p3)), (4, .ref q1), (6, .int u4), (7, .int u5)] [.int u6]) hd KJ)
      have hle := (Mo.le hd2).tr hle
      clear hd2
      refine v_ifZ_eq (tgt := 49) X dX11_leaf_42 (by decide) (fun q => ?_) (fun q => ?_)
      · have hd := cnd_f q hd
        refine v_iconst (v := 1) X dX11_leaf_49 (by decide) ?_
        exact v_loc [1, 2, 3, 4, 5, 0] rfl (v_at (P := fun (u5 : Int32) h => V K 11 h 50 [(0, .ref t), (1, .int p1), (2, .int (b2i p2)), (3, .int (b2i p3)), (4, .ref q1), (6, .int u4)] [.int u5]) hd KJ)
      · have hd := cnd_t q hd
        refine v_iconst (v := (-1)) X dX11_leaf_45 (by decide) ?_
        refine v_goto (tgt := 50) X dX11_leaf_46 (by decide) ?_
        exact v_loc [1, 2, 3, 4, 5, 0] rfl (v_at (P := fun (u5 : Int32) h => V K 11 h 50 [(0, .ref t), (1, .int p1), (2, .int (b2i p2)), (3, .int (b2i p3)), (4, .ref q1), (6, .int u4)] [.int u5]) hd KJ)
    have hle := (Mo.le hd2).tr hle
    clear hd2
    refine v_ifZ_eq (tgt := 37) X dX11_leaf_25 (by decide) (fun q => ?_) (fun q => ?_)
    · have hd := cnd_f q hd
      refine v_iconst (v := 0) X dX11_leaf_37 (by decide) ?_
      exact v_loc [1, 2, 3, 4, 5, 0] rfl (v_at (P := fun (u4 : Int32) h => V K 11 h 38 [(0, .ref t), (1, .int p1), (2, .int (b2i p2)), (3, .int (b2i p3)), (4, .ref q1), (5, .int (b2i u3))] [.int u4]) hd KJ)
    · have hd := cnd_t q hd
      refine v_aload_n X dX11_leaf_28 1 0 rfl rfl ?_
      refine v_getI X hd fl_X11_42 dX11_leaf_29 (fun v24 hd => ?_)
      refine v_iconst (v := 1) X dX11_leaf_32 (by decide) ?_
      refine v_isub X dX11_leaf_33 ?_
      refine v_goto (tgt := 38) X dX11_leaf_34 (by decide) ?_
      exact v_loc [1, 2, 3, 4, 5, 0] rfl (v_at (P := fun (u4 : Int32) h => V K 11 h 38 [(0, .ref t), (1, .int p1), (2, .int (b2i p2)), (3, .int (b2i p3)), (4, .ref q1), (5, .int (b2i u3))] [.int u4]) hd KJ)
  have hle := (Mo.le hd2).tr hle
  clear hd2
  refine v_icmp_ne (tgt := 20) X dX11_leaf_13 (by decide) (fun q => ?_) (fun q => ?_)
  · have hd := ite_f q hd
    refine v_iconst (v := 0) X dX11_leaf_20 (by decide) ?_
    exact v_loc [1, 2, 3, 4, 0] rfl (v_at (P := fun (u3 : Bool) h => V K 11 h 21 [(0, .ref t), (1, .int p1), (2, .int (b2i p2)), (3, .int (b2i p3)), (4, .ref q1)] [.int (b2i u3)]) hd KJ)
  · have hd := ite_t q hd
    refine v_iconst (v := 1) X dX11_leaf_16 (by decide) ?_
    refine v_goto (tgt := 21) X dX11_leaf_17 (by decide) ?_
    exact v_loc [1, 2, 3, 4, 0] rfl (v_at (P := fun (u3 : Bool) h => V K 11 h 21 [(0, .ref t), (1, .int p1), (2, .int (b2i p2)), (3, .int (b2i p3)), (4, .ref q1)] [.int (b2i u3)]) hd KJ)
def dkwX4_isFree_2 : List UInt8 := [132, 2, 1, 43, 28, 182, 0, 47, 62, 167, 255, 216, 4, 172]
abbrev dktX4_isFree_2 : List UInt8 := dkwX4_isFree_2 ++ []
def dkwX4_isFree_1 : List UInt8 := [16, 10, 112, 29, 16, 10, 108, 182, 0, 51, 153, 0, 12, 42, 180, 0, 9, 29, 46, 153, 0, 5, 3, 172]
abbrev dktX4_isFree_1 : List UInt8 := dkwX4_isFree_1 ++ dktX4_isFree_2
def dkwX4_isFree_0 : List UInt8 := [43, 180, 0, 41, 153, 0, 5, 3, 172, 3, 61, 43, 3, 182, 0, 47, 62, 29, 2, 159, 0, 41, 42, 29]
abbrev dktX4_isFree_0 : List UInt8 := dkwX4_isFree_0 ++ dktX4_isFree_1
theorem dksX4_isFree_0 : cX4_isFree.data.toList.drop 0 = dktX4_isFree_0 := by decide +kernel
theorem dksX4_isFree_1 : cX4_isFree.data.toList.drop 24 = dktX4_isFree_1 := dk_seg dksX4_isFree_0 24 rfl rfl
theorem dksX4_isFree_2 : cX4_isFree.data.toList.drop 48 = dktX4_isFree_2 := dk_seg dksX4_isFree_1 24 rfl rfl
theorem dX4_isFree_0 : decode cX4_isFree 0 = .ok (.aload_n 1, 1) := dk_43 (dk_at dksX4_isFree_0 0 rfl rfl)
theorem dX4_isFree_1 : decode cX4_isFree 1 = .ok (.getfield 41, 3) := dk_180 0 41 (dk_at dksX4_isFree_0 1 rfl rfl)
theorem dX4_isFree_4 : decode cX4_isFree 4 = .ok (.ifCond .eq 5, 3) := dk_153 0 5 (dk_at dksX4_isFree_0 4 rfl rfl)
theorem dX4_isFree_7 : decode cX4_isFree 7 = .ok (.iconst 0, 1) := dk_3 (dk_at dksX4_isFree_0 7 rfl rfl)
theorem dX4_isFree_8 : decode cX4_isFree 8 = .ok (.ireturn, 1) := dk_172 (dk_at dksX4_isFree_0 8 rfl rfl)
theorem dX4_isFree_9 : decode cX4_isFree 9 = .ok (.iconst 0, 1) := dk_3 (dk_at dksX4_isFree_0 9 rfl rfl)
theorem dX4_isFree_10 : decode cX4_isFree 10 = .ok (.istore_n 2, 1) := dk_61 (dk_at dksX4_isFree_0 10 rfl rfl)
theorem dX4_isFree_11 : decode cX4_isFree 11 = .ok (.aload_n 1, 1) := dk_43 (dk_at dksX4_isFree_0 11 rfl rfl)
theorem dX4_isFree_12 : decode cX4_isFree 12 = .ok (.iconst 0, 1) := dk_3 (dk_at dksX4_isFree_0 12 rfl rfl)
theorem dX4_isFree_13 : decode cX4_isFree 13 = .ok (.invokevirtual 47, 3) := dk_182 0 47 (dk_at dksX4_isFree_0 13 rfl rfl)
theorem dX4_isFree_16 : decode cX4_isFree 16 = .ok (.istore_n 3, 1) := dk_62 (dk_at dksX4_isFree_0 16 rfl rfl)
theorem dX4_isFree_17 : decode cX4_isFree 17 = .ok (.iload_n 3, 1) := dk_29 (dk_at dksX4_isFree_0 17 rfl rfl)
theorem dX4_isFree_18 : decode cX4_isFree 18 = .ok (.iconst (-1), 1) := dk_2 (dk_at dksX4_isFree_0 18 rfl rfl)
theorem dX4_isFree_19 : decode cX4_isFree 19 = .ok (.if_icmp .eq 41, 3) := dk_159 0 41 (dk_at dksX4_isFree_0 19 rfl rfl)
theorem dX4_isFree_22 : decode cX4_isFree 22 = .ok (.aload_n 0, 1) := dk_42 (dk_at dksX4_isFree_0 22 rfl rfl)
theorem dX4_isFree_23 : decode cX4_isFree 23 = .ok (.iload_n 3, 1) := dk_29 (dk_at dksX4_isFree_0 23 rfl rfl)
theorem dX4_isFree_24 : decode cX4_isFree 24 = .ok (.bipush 10, 2) := dk_16 10 (dk_at dksX4_isFree_1 0 rfl rfl)
theorem dX4_isFree_26 : decode cX4_isFree 26 = .ok (.irem, 1) := dk_112 (dk_at dksX4_isFree_1 2 rfl rfl)
theorem dX4_isFree_27 : decode cX4_isFree 27 = .ok (.iload_n 3, 1) := dk_29 (dk_at dksX4_isFree_1 3 rfl rfl)
theorem dX4_isFree_28 : decode cX4_isFree 28 = .ok (.bipush 10, 2) := dk_16 10 (dk_at dksX4_isFree_1 4 rfl rfl)
theorem dX4_isFree_30 : decode cX4_isFree 30 = .ok (.idiv, 1) := dk_108 (dk_at dksX4_isFree_1 6 rfl rfl)
theorem dX4_isFree_31 : decode cX4_isFree 31 = .ok (.invokevirtual 51, 3) := dk_182 0 51 (dk_at dksX4_isFree_1 7 rfl rfl)
theorem dX4_isFree_34 : decode cX4_isFree 34 = .ok (.ifCond .eq 12, 3) := dk_153 0 12 (dk_at dksX4_isFree_1 10 rfl rfl)
theorem dX4_isFree_37 : decode cX4_isFree 37 = .ok (.aload_n 0, 1) := dk_42 (dk_at dksX4_isFree_1 13 rfl rfl)
theorem dX4_isFree_38 : decode cX4_isFree 38 = .ok (.getfield 9, 3) := dk_180 0 9 (dk_at dksX4_isFree_1 14 rfl rfl)
theorem dX4_isFree_41 : decode cX4_isFree 41 = .ok (.iload_n 3, 1) := dk_29 (dk_at dksX4_isFree_1 17 rfl rfl)
theorem dX4_isFree_42 : decode cX4_isFree 42 = .ok (.iaload, 1) := dk_46 (dk_at dksX4_isFree_1 18 rfl rfl)
theorem dX4_isFree_43 : decode cX4_isFree 43 = .ok (.ifCond .eq 5, 3) := dk_153 0 5 (dk_at dksX4_isFree_1 19 rfl rfl)
theorem dX4_isFree_46 : decode cX4_isFree 46 = .ok (.iconst 0, 1) := dk_3 (dk_at dksX4_isFree_1 22 rfl rfl)
theorem dX4_isFree_47 : decode cX4_isFree 47 = .ok (.ireturn, 1) := dk_172 (dk_at dksX4_isFree_1 23 rfl rfl)
theorem dX4_isFree_48 : decode cX4_isFree 48 = .ok (.iinc 2 1, 3) := dk_132 2 1 (dk_at dksX4_isFree_2 0 rfl rfl)
theorem dX4_isFree_51 : decode cX4_isFree 51 = .ok (.aload_n 1, 1) := dk_43 (dk_at dksX4_isFree_2 3 rfl rfl)
theorem dX4_isFree_52 : decode cX4_isFree 52 = .ok (.iload_n 2, 1) := dk_28 (dk_at dksX4_isFree_2 4 rfl rfl)
theorem dX4_isFree_53 : decode cX4_isFree 53 = .ok (.invokevirtual 47, 3) := dk_182 0 47 (dk_at dksX4_isFree_2 5 rfl rfl)
theorem dX4_isFree_56 : decode cX4_isFree 56 = .ok (.istore_n 3, 1) := dk_62 (dk_at dksX4_isFree_2 8 rfl rfl)
theorem dX4_isFree_57 : decode cX4_isFree 57 = .ok (.goto (-40), 3) := dk_167 255 216 (dk_at dksX4_isFree_2 9 rfl rfl)
theorem dX4_isFree_60 : decode cX4_isFree 60 = .ok (.iconst 1, 1) := dk_4 (dk_at dksX4_isFree_2 12 rfl rfl)
theorem dX4_isFree_61 : decode cX4_isFree 61 = .ok (.ireturn, 1) := dk_172 (dk_at dksX4_isFree_2 13 rfl rfl)
theorem fl_X4_41 : gFl "BitingDoors$House" 41 [10] 4 := by
  intro args s hts hN ci hc
  simp only [List.mem_cons, List.not_mem_nil, or_false] at hc
  subst hc
  exact ⟨RX12, TX12, 5, "BitingDoors$Cells", gCl_X12, in_X12, by decide, Or.inr ⟨"BitingDoors", va_Nw.use rfl (hN.1 ("BitingDoors$House", 41, "BitingDoors$Cells", "beyond", "Z", "BitingDoors") (List.mem_of_getElem? (i := 35) rfl))⟩, fun _ h => h⟩
theorem dn_X4_isFree : yX4_isFree.cls ≠ "java/lang/invoke/MethodHandle" ∧ yX4_isFree.cls ≠ "java/lang/invoke/VarHandle" ∧ (parseMethodDescriptor yX4_isFree.desc).map (fun d => d.parameters.length) = some 1 := by decide +kernel
noncomputable def M_X4_isFree (t : Nat) (p1 : Nat) : Mo Bool := Mo.bind (chk [3] t) (fun _ => Mo.bind (gZ [10] p1 4) (fun v1 => cond v1 (Mo.pure false) (Mo.bind (M_X12_get p1 0) (fun v2 => Mo.loop (S := Int32 × Int32) (fun s3 => if s3.2 = (-1) then Mo.pure (Sum.inr true) else Mo.bind (M_X4_isCell t (s3.2 - s3.2 / 10 * 10) (s3.2 / 10)) (fun v6 => cond v6 (Mo.bind (gR [3] t 0) (fun v7 => Mo.bind (aldI 0 v7 s3.2) (fun v8 => if v8 = 0 then Mo.lv (s3.1 + 1) (fun v9 => Mo.bind (M_X12_get p1 v9) (fun v10 => Mo.pure (Sum.inl (v9, v10)))) else Mo.pure (Sum.inr false)))) (Mo.pure (Sum.inr false)))) (0, v2)))))
set_option maxHeartbeats 4000000 in
theorem ct_X4_isFree (G : gG) (t : Nat) (p1 : Nat) : gCt G yX4_isFree cX4_isFree 4 (some .boolean) 2 44 [.ref t, .ref p1] (M_X4_isFree t p1) (fun x : Bool => some (.int (b2i x))) := by
  refine gCt.of (by decide) (Nat.le_of_ble_eq_true rfl) (fun K r hG X hd ho => ?_)
  subst hG
  have X : gX K cX4_isFree 4 "BitingDoors$House" "isFree" (some .boolean) 2 44 := X
  have hle : gLe (kh1 K) (kh1 K) := gLe.rf
  show V K 4 (kh0 K) 0 [(0, .ref t), (1, .ref p1)] []
  generalize kh0 K = h at hd ⊢
  unfold M_X4_isFree at hd
  obtain ⟨-, hd⟩ := chk_some hd
  refine v_aload_n X dX4_isFree_0 1 1 rfl rfl ?_
  refine v_getZ X hd fl_X4_41 dX4_isFree_1 (fun v1 hd => ?_)
  refine v_ifZ_eq (tgt := 9) X dX4_isFree_4 (by decide) (fun q => ?_) (fun q => ?_)
  · have hd := cnd_f q hd
    refine v_iconst (v := 0) X dX4_isFree_9 (by decide) ?_
    refine v_istore_n (lv2 := [(2, .int 0), (0, .ref t), (1, .ref p1)]) X dX4_isFree_10 2 rfl (by decide) rfl ?_
    refine v_aload_n X dX4_isFree_11 2 1 rfl rfl ?_
    refine v_iconst (v := 0) X dX4_isFree_12 (by decide) ?_
    refine v_callV X hd hle (ct_X12_get _ p1 0) gCl_X12 (lw_V q986 q987 q988 q126 q989) ⟨rfl, dn_X12_get⟩ rfl ⟨by decide, by decide⟩ rfl (Nat.le_of_ble_eq_true rfl) dX4_isFree_13 (fun v2 h hd => ?_)
    show V K 4 h 16 [(2, .int 0), (0, .ref t), (1, .ref p1)] [.int v2]
    refine v_istore_n (lv2 := [(3, .int v2), (2, .int 0), (0, .ref t), (1, .ref p1)]) X dX4_isFree_16 3 rfl (by decide) rfl ?_
    refine v_loc [2, 3, 1, 0] rfl ?_
    refine loop_ind hd (fun (s3 : Int32 × Int32) h => V K 4 h 17 [(0, .ref t), (1, .ref p1), (2, .int s3.1), (3, .int s3.2)] []) (fun s3 h x h2 hd hle0 ih4 ho5 => ?_)
    have hle := hle0.tr hle
    refine v_iload_n X dX4_isFree_17 3 3 rfl rfl ?_
    refine v_iconst (v := (-1)) X dX4_isFree_18 (by decide) ?_
    refine v_icmp_eq (tgt := 60) X dX4_isFree_19 (by decide) (fun q => ?_) (fun q => ?_)
    · have hd := ite_t q hd
      refine v_iconst (v := 1) X dX4_isFree_60 (by decide) ?_
      have hd := lp_out hd ho5
      exact v_zret X hd rfl ho dX4_isFree_61
    · have hd := ite_f q hd
      refine v_aload_n X dX4_isFree_22 0 0 rfl rfl ?_
      refine v_iload_n X dX4_isFree_23 3 3 rfl rfl ?_
      refine v_bipush (v := 10) X dX4_isFree_24 (by decide) ?_
      refine v_irem X dX4_isFree_26 (by decide) ?_
      refine v_iload_n X dX4_isFree_27 3 3 rfl rfl ?_
      refine v_bipush (v := 10) X dX4_isFree_28 (by decide) ?_
      refine v_idiv X dX4_isFree_30 (by decide) ?_
      refine v_callV X hd hle (ct_X4_isCell _ t (s3.2 - s3.2 / 10 * 10) (s3.2 / 10)) gCl_X4 (lw_V q990 q827 q828 q114 q829) ⟨rfl, dn_X4_isCell⟩ rfl ⟨by decide, by decide⟩ rfl (Nat.le_of_ble_eq_true rfl) dX4_isFree_31 (fun v6 h hd => ?_)
      show V K 4 h 34 [(0, .ref t), (1, .ref p1), (2, .int s3.1), (3, .int s3.2)] [.int (b2i v6)]
      refine v_ifZ_eq (tgt := 46) X dX4_isFree_34 (by decide) (fun q => ?_) (fun q => ?_)
      · have hd := cnd_f q hd
        refine v_iconst (v := 0) X dX4_isFree_46 (by decide) ?_
        have hd := lp_out hd ho5
        exact v_zret X hd rfl ho dX4_isFree_47
      · have hd := cnd_t q hd
        refine v_aload_n X dX4_isFree_37 0 0 rfl rfl ?_
        refine v_getR X hd fl_X4_9 dX4_isFree_38 (fun v7 hd => ?_)
        refine v_iload_n X dX4_isFree_41 3 3 rfl rfl ?_
        refine v_iald X hd dX4_isFree_42 (fun v8 hd => ?_)
        refine v_if_eq (tgt := 48) X dX4_isFree_43 (by decide) (fun q => ?_) (fun q => ?_)
        · have hd := ite_t q hd
          refine v_iincL (lv2 := fun v9 => [(2, .int v9), (0, .ref t), (1, .ref p1), (3, .int s3.2)]) X hd dX4_isFree_48 2 rfl (by decide : Int32.ofInt 1 = 1) (by decide) (fun v9 => rfl) (fun v9 hd => ?_)
          refine v_aload_n X dX4_isFree_51 2 1 rfl rfl ?_
          refine v_iload_n X dX4_isFree_52 0 2 rfl rfl ?_
          refine v_callV X hd hle (ct_X12_get _ p1 v9) gCl_X12 (lw_V q986 q987 q988 q126 q989) ⟨rfl, dn_X12_get⟩ rfl ⟨by decide, by decide⟩ rfl (Nat.le_of_ble_eq_true rfl) dX4_isFree_53 (fun v10 h hd => ?_)
          show V K 4 h 56 [(2, .int v9), (0, .ref t), (1, .ref p1), (3, .int s3.2)] [.int v10]
          refine v_istore_n (lv2 := [(3, .int v10), (2, .int v9), (0, .ref t), (1, .ref p1)]) X dX4_isFree_56 3 rfl (by decide) rfl ?_
          refine v_goto (tgt := 17) X dX4_isFree_57 (by decide) ?_
          exact v_loc [2, 3, 1, 0] rfl (lp_in (P := fun (s3 : Int32 × Int32) h => V K 4 h 17 [(0, .ref t), (1, .ref p1), (2, .int s3.1), (3, .int s3.2)] []) hd ih4)
        · have hd := ite_f q hd
          refine v_iconst (v := 0) X dX4_isFree_46 (by decide) ?_
          have hd := lp_out hd ho5
          exact v_zret X hd rfl ho dX4_isFree_47
  · have hd := cnd_t q hd
    refine v_iconst (v := 0) X dX4_isFree_7 (by decide) ?_
    exact v_zret X hd rfl ho dX4_isFree_8
def dkwX11_hang_5 : List UInt8 := [29, 182, 0, 59, 182, 0, 72, 132, 3, 1, 167, 255, 204, 132, 2, 1, 167, 255, 124, 177]
abbrev dktX11_hang_5 : List UInt8 := dkwX11_hang_5 ++ []
def dkwX11_hang_4 : List UInt8 := [167, 0, 31, 42, 180, 0, 20, 28, 92, 46, 29, 184, 0, 68, 128, 79, 42, 180, 0, 17, 28, 50, 42, 28]
abbrev dktX11_hang_4 : List UInt8 := dkwX11_hang_4 ++ dktX11_hang_5
def dkwX11_hang_3 : List UInt8 := [4, 79, 4, 62, 29, 6, 162, 0, 53, 43, 42, 28, 29, 182, 0, 59, 182, 0, 62, 154, 0, 6]
abbrev dktX11_hang_3 : List UInt8 := dkwX11_hang_3 ++ dktX11_hang_4
def dkwX11_hang_2 : List UInt8 := [132, 3, 1, 167, 255, 214, 42, 180, 0, 17, 28, 187, 0, 9, 89, 183, 0, 58, 83, 42, 180, 0, 20, 28]
abbrev dktX11_hang_2 : List UInt8 := dkwX11_hang_2 ++ dktX11_hang_3
def dkwX11_hang_1 : List UInt8 := [28, 29, 154, 0, 7, 4, 167, 0, 4, 3, 29, 4, 160, 0, 7, 4, 167, 0, 4, 3, 182, 0, 54, 83]
abbrev dktX11_hang_1 : List UInt8 := dkwX11_hang_1 ++ dktX11_hang_2
def dkwX11_hang_0 : List UInt8 := [3, 61, 28, 7, 162, 0, 133, 3, 62, 29, 6, 162, 0, 43, 42, 180, 0, 11, 6, 28, 104, 29, 96, 42]
abbrev dktX11_hang_0 : List UInt8 := dkwX11_hang_0 ++ dktX11_hang_1
theorem dksX11_hang_0 : cX11_hang.data.toList.drop 0 = dktX11_hang_0 := by decide +kernel
theorem dksX11_hang_1 : cX11_hang.data.toList.drop 24 = dktX11_hang_1 := dk_seg dksX11_hang_0 24 rfl rfl
theorem dksX11_hang_2 : cX11_hang.data.toList.drop 48 = dktX11_hang_2 := dk_seg dksX11_hang_1 24 rfl rfl
theorem dksX11_hang_3 : cX11_hang.data.toList.drop 72 = dktX11_hang_3 := dk_seg dksX11_hang_2 24 rfl rfl
theorem dksX11_hang_4 : cX11_hang.data.toList.drop 94 = dktX11_hang_4 := dk_seg dksX11_hang_3 22 rfl rfl
theorem dksX11_hang_5 : cX11_hang.data.toList.drop 118 = dktX11_hang_5 := dk_seg dksX11_hang_4 24 rfl rfl
theorem dX11_hang_0 : decode cX11_hang 0 = .ok (.iconst 0, 1) := dk_3 (dk_at dksX11_hang_0 0 rfl rfl)
theorem dX11_hang_1 : decode cX11_hang 1 = .ok (.istore_n 2, 1) := dk_61 (dk_at dksX11_hang_0 1 rfl rfl)
theorem dX11_hang_2 : decode cX11_hang 2 = .ok (.iload_n 2, 1) := dk_28 (dk_at dksX11_hang_0 2 rfl rfl)
theorem dX11_hang_3 : decode cX11_hang 3 = .ok (.iconst 4, 1) := dk_7 (dk_at dksX11_hang_0 3 rfl rfl)
theorem dX11_hang_4 : decode cX11_hang 4 = .ok (.if_icmp .ge 133, 3) := dk_162 0 133 (dk_at dksX11_hang_0 4 rfl rfl)
theorem dX11_hang_7 : decode cX11_hang 7 = .ok (.iconst 0, 1) := dk_3 (dk_at dksX11_hang_0 7 rfl rfl)
theorem dX11_hang_8 : decode cX11_hang 8 = .ok (.istore_n 3, 1) := dk_62 (dk_at dksX11_hang_0 8 rfl rfl)
theorem dX11_hang_9 : decode cX11_hang 9 = .ok (.iload_n 3, 1) := dk_29 (dk_at dksX11_hang_0 9 rfl rfl)
theorem dX11_hang_10 : decode cX11_hang 10 = .ok (.iconst 3, 1) := dk_6 (dk_at dksX11_hang_0 10 rfl rfl)
theorem dX11_hang_11 : decode cX11_hang 11 = .ok (.if_icmp .ge 43, 3) := dk_162 0 43 (dk_at dksX11_hang_0 11 rfl rfl)
theorem dX11_hang_14 : decode cX11_hang 14 = .ok (.aload_n 0, 1) := dk_42 (dk_at dksX11_hang_0 14 rfl rfl)
theorem dX11_hang_15 : decode cX11_hang 15 = .ok (.getfield 11, 3) := dk_180 0 11 (dk_at dksX11_hang_0 15 rfl rfl)
theorem dX11_hang_18 : decode cX11_hang 18 = .ok (.iconst 3, 1) := dk_6 (dk_at dksX11_hang_0 18 rfl rfl)
theorem dX11_hang_19 : decode cX11_hang 19 = .ok (.iload_n 2, 1) := dk_28 (dk_at dksX11_hang_0 19 rfl rfl)
theorem dX11_hang_20 : decode cX11_hang 20 = .ok (.imul, 1) := dk_104 (dk_at dksX11_hang_0 20 rfl rfl)
theorem dX11_hang_21 : decode cX11_hang 21 = .ok (.iload_n 3, 1) := dk_29 (dk_at dksX11_hang_0 21 rfl rfl)
theorem dX11_hang_22 : decode cX11_hang 22 = .ok (.iadd, 1) := dk_96 (dk_at dksX11_hang_0 22 rfl rfl)
theorem dX11_hang_23 : decode cX11_hang 23 = .ok (.aload_n 0, 1) := dk_42 (dk_at dksX11_hang_0 23 rfl rfl)
theorem dX11_hang_24 : decode cX11_hang 24 = .ok (.iload_n 2, 1) := dk_28 (dk_at dksX11_hang_1 0 rfl rfl)
theorem dX11_hang_25 : decode cX11_hang 25 = .ok (.iload_n 3, 1) := dk_29 (dk_at dksX11_hang_1 1 rfl rfl)
theorem dX11_hang_26 : decode cX11_hang 26 = .ok (.ifCond .ne 7, 3) := dk_154 0 7 (dk_at dksX11_hang_1 2 rfl rfl)
theorem dX11_hang_29 : decode cX11_hang 29 = .ok (.iconst 1, 1) := dk_4 (dk_at dksX11_hang_1 5 rfl rfl)
theorem dX11_hang_30 : decode cX11_hang 30 = .ok (.goto 4, 3) := dk_167 0 4 (dk_at dksX11_hang_1 6 rfl rfl)
theorem dX11_hang_33 : decode cX11_hang 33 = .ok (.iconst 0, 1) := dk_3 (dk_at dksX11_hang_1 9 rfl rfl)
theorem dX11_hang_34 : decode cX11_hang 34 = .ok (.iload_n 3, 1) := dk_29 (dk_at dksX11_hang_1 10 rfl rfl)
theorem dX11_hang_35 : decode cX11_hang 35 = .ok (.iconst 1, 1) := dk_4 (dk_at dksX11_hang_1 11 rfl rfl)
theorem dX11_hang_36 : decode cX11_hang 36 = .ok (.if_icmp .ne 7, 3) := dk_160 0 7 (dk_at dksX11_hang_1 12 rfl rfl)
theorem dX11_hang_39 : decode cX11_hang 39 = .ok (.iconst 1, 1) := dk_4 (dk_at dksX11_hang_1 15 rfl rfl)
theorem dX11_hang_40 : decode cX11_hang 40 = .ok (.goto 4, 3) := dk_167 0 4 (dk_at dksX11_hang_1 16 rfl rfl)
theorem dX11_hang_43 : decode cX11_hang 43 = .ok (.iconst 0, 1) := dk_3 (dk_at dksX11_hang_1 19 rfl rfl)
theorem dX11_hang_44 : decode cX11_hang 44 = .ok (.invokevirtual 54, 3) := dk_182 0 54 (dk_at dksX11_hang_1 20 rfl rfl)
theorem dX11_hang_47 : decode cX11_hang 47 = .ok (.aastore, 1) := dk_83 (dk_at dksX11_hang_1 23 rfl rfl)
theorem dX11_hang_48 : decode cX11_hang 48 = .ok (.iinc 3 1, 3) := dk_132 3 1 (dk_at dksX11_hang_2 0 rfl rfl)
theorem dX11_hang_51 : decode cX11_hang 51 = .ok (.goto (-42), 3) := dk_167 255 214 (dk_at dksX11_hang_2 3 rfl rfl)
theorem dX11_hang_54 : decode cX11_hang 54 = .ok (.aload_n 0, 1) := dk_42 (dk_at dksX11_hang_2 6 rfl rfl)
theorem dX11_hang_55 : decode cX11_hang 55 = .ok (.getfield 17, 3) := dk_180 0 17 (dk_at dksX11_hang_2 7 rfl rfl)
theorem dX11_hang_58 : decode cX11_hang 58 = .ok (.iload_n 2, 1) := dk_28 (dk_at dksX11_hang_2 10 rfl rfl)
theorem dX11_hang_59 : decode cX11_hang 59 = .ok (.new 9, 3) := dk_187 0 9 (dk_at dksX11_hang_2 11 rfl rfl)
theorem dX11_hang_62 : decode cX11_hang 62 = .ok (.dup, 1) := dk_89 (dk_at dksX11_hang_2 14 rfl rfl)
theorem dX11_hang_63 : decode cX11_hang 63 = .ok (.invokespecial 58, 3) := dk_183 0 58 (dk_at dksX11_hang_2 15 rfl rfl)
theorem dX11_hang_66 : decode cX11_hang 66 = .ok (.aastore, 1) := dk_83 (dk_at dksX11_hang_2 18 rfl rfl)
theorem dX11_hang_67 : decode cX11_hang 67 = .ok (.aload_n 0, 1) := dk_42 (dk_at dksX11_hang_2 19 rfl rfl)
theorem dX11_hang_68 : decode cX11_hang 68 = .ok (.getfield 20, 3) := dk_180 0 20 (dk_at dksX11_hang_2 20 rfl rfl)
theorem dX11_hang_71 : decode cX11_hang 71 = .ok (.iload_n 2, 1) := dk_28 (dk_at dksX11_hang_2 23 rfl rfl)
theorem dX11_hang_72 : decode cX11_hang 72 = .ok (.iconst 1, 1) := dk_4 (dk_at dksX11_hang_3 0 rfl rfl)
theorem dX11_hang_73 : decode cX11_hang 73 = .ok (.iastore, 1) := dk_79 (dk_at dksX11_hang_3 1 rfl rfl)
theorem dX11_hang_74 : decode cX11_hang 74 = .ok (.iconst 1, 1) := dk_4 (dk_at dksX11_hang_3 2 rfl rfl)
theorem dX11_hang_75 : decode cX11_hang 75 = .ok (.istore_n 3, 1) := dk_62 (dk_at dksX11_hang_3 3 rfl rfl)
theorem dX11_hang_76 : decode cX11_hang 76 = .ok (.iload_n 3, 1) := dk_29 (dk_at dksX11_hang_3 4 rfl rfl)
theorem dX11_hang_77 : decode cX11_hang 77 = .ok (.iconst 3, 1) := dk_6 (dk_at dksX11_hang_3 5 rfl rfl)
theorem dX11_hang_78 : decode cX11_hang 78 = .ok (.if_icmp .ge 53, 3) := dk_162 0 53 (dk_at dksX11_hang_3 6 rfl rfl)
theorem dX11_hang_81 : decode cX11_hang 81 = .ok (.aload_n 1, 1) := dk_43 (dk_at dksX11_hang_3 9 rfl rfl)
theorem dX11_hang_82 : decode cX11_hang 82 = .ok (.aload_n 0, 1) := dk_42 (dk_at dksX11_hang_3 10 rfl rfl)
theorem dX11_hang_83 : decode cX11_hang 83 = .ok (.iload_n 2, 1) := dk_28 (dk_at dksX11_hang_3 11 rfl rfl)
theorem dX11_hang_84 : decode cX11_hang 84 = .ok (.iload_n 3, 1) := dk_29 (dk_at dksX11_hang_3 12 rfl rfl)
theorem dX11_hang_85 : decode cX11_hang 85 = .ok (.invokevirtual 59, 3) := dk_182 0 59 (dk_at dksX11_hang_3 13 rfl rfl)
theorem dX11_hang_88 : decode cX11_hang 88 = .ok (.invokevirtual 62, 3) := dk_182 0 62 (dk_at dksX11_hang_3 16 rfl rfl)
theorem dX11_hang_91 : decode cX11_hang 91 = .ok (.ifCond .ne 6, 3) := dk_154 0 6 (dk_at dksX11_hang_3 19 rfl rfl)
theorem dX11_hang_94 : decode cX11_hang 94 = .ok (.goto 31, 3) := dk_167 0 31 (dk_at dksX11_hang_4 0 rfl rfl)
theorem dX11_hang_97 : decode cX11_hang 97 = .ok (.aload_n 0, 1) := dk_42 (dk_at dksX11_hang_4 3 rfl rfl)
theorem dX11_hang_98 : decode cX11_hang 98 = .ok (.getfield 20, 3) := dk_180 0 20 (dk_at dksX11_hang_4 4 rfl rfl)
theorem dX11_hang_101 : decode cX11_hang 101 = .ok (.iload_n 2, 1) := dk_28 (dk_at dksX11_hang_4 7 rfl rfl)
theorem dX11_hang_102 : decode cX11_hang 102 = .ok (.dup2, 1) := dk_92 (dk_at dksX11_hang_4 8 rfl rfl)
theorem dX11_hang_103 : decode cX11_hang 103 = .ok (.iaload, 1) := dk_46 (dk_at dksX11_hang_4 9 rfl rfl)
theorem dX11_hang_104 : decode cX11_hang 104 = .ok (.iload_n 3, 1) := dk_29 (dk_at dksX11_hang_4 10 rfl rfl)
theorem dX11_hang_105 : decode cX11_hang 105 = .ok (.invokestatic 68, 3) := dk_184 0 68 (dk_at dksX11_hang_4 11 rfl rfl)
theorem dX11_hang_108 : decode cX11_hang 108 = .ok (.ior, 1) := dk_128 (dk_at dksX11_hang_4 14 rfl rfl)
theorem dX11_hang_109 : decode cX11_hang 109 = .ok (.iastore, 1) := dk_79 (dk_at dksX11_hang_4 15 rfl rfl)
theorem dX11_hang_110 : decode cX11_hang 110 = .ok (.aload_n 0, 1) := dk_42 (dk_at dksX11_hang_4 16 rfl rfl)
theorem dX11_hang_111 : decode cX11_hang 111 = .ok (.getfield 17, 3) := dk_180 0 17 (dk_at dksX11_hang_4 17 rfl rfl)
theorem dX11_hang_114 : decode cX11_hang 114 = .ok (.iload_n 2, 1) := dk_28 (dk_at dksX11_hang_4 20 rfl rfl)
theorem dX11_hang_115 : decode cX11_hang 115 = .ok (.aaload, 1) := dk_50 (dk_at dksX11_hang_4 21 rfl rfl)
theorem dX11_hang_116 : decode cX11_hang 116 = .ok (.aload_n 0, 1) := dk_42 (dk_at dksX11_hang_4 22 rfl rfl)
theorem dX11_hang_117 : decode cX11_hang 117 = .ok (.iload_n 2, 1) := dk_28 (dk_at dksX11_hang_4 23 rfl rfl)
theorem dX11_hang_118 : decode cX11_hang 118 = .ok (.iload_n 3, 1) := dk_29 (dk_at dksX11_hang_5 0 rfl rfl)
theorem dX11_hang_119 : decode cX11_hang 119 = .ok (.invokevirtual 59, 3) := dk_182 0 59 (dk_at dksX11_hang_5 1 rfl rfl)
theorem dX11_hang_122 : decode cX11_hang 122 = .ok (.invokevirtual 72, 3) := dk_182 0 72 (dk_at dksX11_hang_5 4 rfl rfl)
theorem dX11_hang_125 : decode cX11_hang 125 = .ok (.iinc 3 1, 3) := dk_132 3 1 (dk_at dksX11_hang_5 7 rfl rfl)
theorem dX11_hang_128 : decode cX11_hang 128 = .ok (.goto (-52), 3) := dk_167 255 204 (dk_at dksX11_hang_5 10 rfl rfl)
theorem dX11_hang_131 : decode cX11_hang 131 = .ok (.iinc 2 1, 3) := dk_132 2 1 (dk_at dksX11_hang_5 13 rfl rfl)
theorem dX11_hang_134 : decode cX11_hang 134 = .ok (.goto (-132), 3) := dk_167 255 124 (dk_at dksX11_hang_5 16 rfl rfl)
theorem dX11_hang_137 : decode cX11_hang 137 = .ok (.return_, 1) := dk_177 (dk_at dksX11_hang_5 19 rfl rfl)
theorem fl_X11_17 : gFl "BitingDoors$Door" 17 [9] 6 := by
  intro args s hts hN ci hc
  simp only [List.mem_cons, List.not_mem_nil, or_false] at hc
  subst hc
  exact ⟨RX11, TX11, 12, "BitingDoors$Door", gCl_X11, in_X11, by decide, Or.inl (hts _ q851), fun _ h => h⟩
theorem dn_X11_hang : yX11_hang.cls ≠ "java/lang/invoke/MethodHandle" ∧ yX11_hang.cls ≠ "java/lang/invoke/VarHandle" ∧ (parseMethodDescriptor yX11_hang.desc).map (fun d => d.parameters.length) = some 1 := by decide +kernel
noncomputable def M_X11_hang (t : Nat) (p1 : Nat) : Mo Unit := Mo.bind (chk [9] t) (fun _ => Mo.bind (Mo.loop (S := Int32) (E := Unit) (fun s1 => if 4 ≤ s1 then Mo.pure (Sum.inr ()) else Mo.bind (Mo.loop (S := Int32) (E := Unit) (fun s5 => if 3 ≤ s5 then Mo.pure (Sum.inr ()) else Mo.bind (gR [9] t 5) (fun v9 => Mo.bind ((if s5 = 0 then Mo.pure true else Mo.pure false : Mo (Bool))) (fun u10 => Mo.bind ((if s5 = 1 then Mo.pure true else Mo.pure false : Mo (Bool))) (fun u11 => Mo.bind (M_X11_leaf t s1 u10 u11) (fun v12 => Mo.bind (astN 4 v9 [10] ((3 * s1) + s5) (some v12)) (fun _ => Mo.lv (s5 + 1) (fun v13 => Mo.pure (Sum.inl v13)))))))) 0) (fun e8 => Mo.bind (gR [9] t 6) (fun v14 => Mo.bind (nw 10 5 [.null, .int 0, .long 0, .long 0, .int 0]) (fun q15 => Mo.bind (M_X12_init q15) (fun v16 => Mo.bind (astN 4 v14 [10] s1 (some q15)) (fun _ => Mo.bind (gR [9] t 7) (fun v17 => Mo.bind (astI 0 v17 s1 1) (fun _ => Mo.bind (Mo.loop (S := Int32) (E := Unit) (fun s18 => if 3 ≤ s18 then Mo.pure (Sum.inr ()) else Mo.bind (M_X11_leaf_2 t s1 s18) (fun v22 => Mo.bind (M_X4_isFree p1 v22) (fun v23 => Mo.bind ((cond v23 (Mo.bind (gR [9] t 7) (fun v26 => Mo.bind (aldI 0 v26 s1) (fun v27 => Mo.bind (M_X1_one s18) (fun v28 => Mo.bind (astI 0 v26 s1 (v27 ||| v28)) (fun _ => Mo.bind (gR [9] t 6) (fun v29 => Mo.bind (aldR 4 v29 s1) (fun v30 => Mo.bind (M_X11_leaf_2 t s1 s18) (fun v31 => Mo.bind (M_X12_add v30 v31) (fun v32 => Mo.pure ()))))))))) (Mo.pure ()) : Mo (Unit))) (fun u24 => Mo.lv (s18 + 1) (fun v25 => Mo.pure (Sum.inl v25)))))) 1) (fun e21 => Mo.lv (s1 + 1) (fun v33 => Mo.pure (Sum.inl v33))))))))))) 0) (fun e4 => Mo.pure ()))
set_option maxHeartbeats 4000000 in
theorem ct_X11_hang (G : gG) (t : Nat) (p1 : Nat) : gCt G yX11_hang cX11_hang 4 none 4 97 [.ref t, .ref p1] (M_X11_hang t p1) (fun _ : Unit => none) := by
  refine gCt.of (by decide) (Nat.le_of_ble_eq_true rfl) (fun K r hG X hd ho => ?_)
  subst hG
  have X : gX K cX11_hang 4 "BitingDoors$Door" "hang" none 4 97 := X
  have hle : gLe (kh1 K) (kh1 K) := gLe.rf
  show V K 4 (kh0 K) 0 [(0, .ref t), (1, .ref p1)] []
  generalize kh0 K = h at hd ⊢
  unfold M_X11_hang at hd
  obtain ⟨-, hd⟩ := chk_some hd
  refine v_iconst (v := 0) X dX11_hang_0 (by decide) ?_
  refine v_istore_n (lv2 := [(2, .int 0), (0, .ref t), (1, .ref p1)]) X dX11_hang_1 2 rfl (by decide) rfl ?_
  obtain ⟨e4, h1, hd, hd2⟩ := Mo.bind_some hd
  have KX : V K 4 h1 137 [] [] := by
    clear hd
    have hd := hd2
    exact v_vret X hd ho dX11_hang_137
  have hle := (Mo.le hd2).tr hle
  clear hd2
  refine v_loc [1, 2, 0] rfl ?_
  refine loop_ind hd (fun (s1 : Int32) h => V K 4 h 2 [(0, .ref t), (1, .ref p1), (2, .int s1)] []) (fun s1 h x h2 hd hle0 ih2 ho3 => ?_)
  have hle := hle0.tr hle
  refine v_iload_n X dX11_hang_2 2 2 rfl rfl ?_
  refine v_iconst (v := 4) X dX11_hang_3 (by decide) ?_
  refine v_icmp_ge (tgt := 137) X dX11_hang_4 (by decide) (fun q => ?_) (fun q => ?_)
  · have hd := ite_t q hd
    exact v_loc [] rfl (v_at (P := fun (e4 : Unit) h => V K 4 h 137 [] []) (lp_out hd ho3) KX)
  · have hd := ite_f q hd
    refine v_iconst (v := 0) X dX11_hang_7 (by decide) ?_
    refine v_istore_n (lv2 := [(3, .int 0), (0, .ref t), (1, .ref p1), (2, .int s1)]) X dX11_hang_8 3 rfl (by decide) rfl ?_
    obtain ⟨e8, h1, hd, hd2⟩ := Mo.bind_some hd
    have KX : V K 4 h1 54 [(0, .ref t), (1, .ref p1), (2, .int s1)] [] := by
      clear hd
      have hd := hd2
      refine v_aload_n X dX11_hang_54 0 0 rfl rfl ?_
      refine v_getR X hd fl_X11_17 dX11_hang_55 (fun v14 hd => ?_)
      refine v_iload_n X dX11_hang_58 2 2 rfl rfl ?_
      refine v_new X hd hle nw_X11_9 dX11_hang_59 (fun q15 h hd => ?_)
      refine v_dup X dX11_hang_62 rfl ?_
      refine v_callIN (host := "BitingDoors") X hd hle (ct_X12_init _ q15) (List.mem_of_getElem? (i := 11) rfl) q935 q126 q934 rfl dn_X12_init rfl ⟨by decide, by decide⟩ rfl (Nat.le_of_ble_eq_true rfl) dX11_hang_63 (fun v16 h hd => ?_)
      show V K 4 h 66 [(0, .ref t), (1, .ref p1), (2, .int s1)] [.ref q15, .int s1, .ref v14]
      refine v_astN (x := (some q15)) X hd 4 rfl (by decide) (by decide) gca_4 dX11_hang_66 (fun h hd => ?_)
      refine v_aload_n X dX11_hang_67 0 0 rfl rfl ?_
      refine v_getR X hd fl_X11_20 dX11_hang_68 (fun v17 hd => ?_)
      refine v_iload_n X dX11_hang_71 2 2 rfl rfl ?_
      refine v_iconst (v := 1) X dX11_hang_72 (by decide) ?_
      refine v_iast X hd dX11_hang_73 (fun h hd => ?_)
      refine v_iconst (v := 1) X dX11_hang_74 (by decide) ?_
      refine v_istore_n (lv2 := [(3, .int 1), (0, .ref t), (1, .ref p1), (2, .int s1)]) X dX11_hang_75 3 rfl (by decide) rfl ?_
      obtain ⟨e21, h1, hd, hd2⟩ := Mo.bind_some hd
      have KX : V K 4 h1 131 [(0, .ref t), (1, .ref p1), (2, .int s1)] [] := by
        clear hd
        have hd := hd2
        refine v_iincL (lv2 := fun v33 => [(2, .int v33), (0, .ref t), (1, .ref p1)]) X hd dX11_hang_131 2 rfl (by decide : Int32.ofInt 1 = 1) (by decide) (fun v33 => rfl) (fun v33 hd => ?_)
        refine v_goto (tgt := 2) X dX11_hang_134 (by decide) ?_
        exact v_loc [1, 2, 0] rfl (lp_in (P := fun (s1 : Int32) h => V K 4 h 2 [(0, .ref t), (1, .ref p1), (2, .int s1)] []) hd ih2)
      have hle := (Mo.le hd2).tr hle
      clear hd2
      refine v_loc [1, 2, 3, 0] rfl ?_
      refine loop_ind hd (fun (s18 : Int32) h => V K 4 h 76 [(0, .ref t), (1, .ref p1), (2, .int s1), (3, .int s18)] []) (fun s18 h x h2 hd hle0 ih19 ho20 => ?_)
      have hle := hle0.tr hle
      refine v_iload_n X dX11_hang_76 3 3 rfl rfl ?_
      refine v_iconst (v := 3) X dX11_hang_77 (by decide) ?_
      refine v_icmp_ge (tgt := 131) X dX11_hang_78 (by decide) (fun q => ?_) (fun q => ?_)
      · have hd := ite_t q hd
        exact v_loc [0, 1, 2] rfl (v_at (P := fun (e21 : Unit) h => V K 4 h 131 [(0, .ref t), (1, .ref p1), (2, .int s1)] []) (lp_out hd ho20) KX)
      · have hd := ite_f q hd
        refine v_aload_n X dX11_hang_81 1 1 rfl rfl ?_
        refine v_aload_n X dX11_hang_82 0 0 rfl rfl ?_
        refine v_iload_n X dX11_hang_83 2 2 rfl rfl ?_
        refine v_iload_n X dX11_hang_84 3 3 rfl rfl ?_
        refine v_callV X hd hle (ct_X11_leaf_2 _ t s1 s18) gCl_X11 (lw_V q978 q979 q980 q125 q981) ⟨rfl, dn_X11_leaf_2⟩ rfl ⟨by decide, by decide⟩ rfl (Nat.le_of_ble_eq_true rfl) dX11_hang_85 (fun v22 h hd => ?_)
        show V K 4 h 88 [(0, .ref t), (1, .ref p1), (2, .int s1), (3, .int s18)] [.ref v22, .ref p1]
        refine v_callV X hd hle (ct_X4_isFree _ p1 v22) gCl_X4 (lw_V q982 q983 q984 q114 q985) ⟨rfl, dn_X4_isFree⟩ rfl ⟨by decide, by decide⟩ rfl (Nat.le_of_ble_eq_true rfl) dX11_hang_88 (fun v23 h hd => ?_)
        show V K 4 h 91 [(0, .ref t), (1, .ref p1), (2, .int s1), (3, .int s18)] [.int (b2i v23)]
        obtain ⟨u24, h1, hd, hd2⟩ := Mo.bind_some hd
        have KJ : V K 4 h1 125 [(0, .ref t), (1, .ref p1), (2, .int s1), (3, .int s18)] [] := by
          clear hd
          have hd := hd2
          refine v_iincL (lv2 := fun v25 => [(3, .int v25), (0, .ref t), (1, .ref p1), (2, .int s1)]) X hd dX11_hang_125 3 rfl (by decide : Int32.ofInt 1 = 1) (by decide) (fun v25 => rfl) (fun v25 hd => ?_)
          refine v_goto (tgt := 76) X dX11_hang_128 (by decide) ?_
          exact v_loc [1, 2, 3, 0] rfl (lp_in (P := fun (s18 : Int32) h => V K 4 h 76 [(0, .ref t), (1, .ref p1), (2, .int s1), (3, .int s18)] []) hd ih19)
        have hle := (Mo.le hd2).tr hle
        clear hd2
        refine v_ifZ_ne (tgt := 97) X dX11_hang_91 (by decide) (fun q => ?_) (fun q => ?_)
        · have hd := cnd_t q hd
          refine v_aload_n X dX11_hang_97 0 0 rfl rfl ?_
          refine v_getR X hd fl_X11_20 dX11_hang_98 (fun v26 hd => ?_)
          refine v_iload_n X dX11_hang_101 2 2 rfl rfl ?_
          refine v_dup2 X dX11_hang_102 rfl rfl ?_
          refine v_iald X hd dX11_hang_103 (fun v27 hd => ?_)
          refine v_iload_n X dX11_hang_104 3 3 rfl rfl ?_
          refine v_callSN (host := "BitingDoors") X hd hle (ct_X1_one _ s18) (List.mem_of_getElem? (i := 12) rfl) q896 q895 q109 dn_X1_one rfl ⟨by decide, by decide⟩ rfl (Nat.le_of_ble_eq_true rfl) dX11_hang_105 (fun v28 h hd => ?_)
          show V K 4 h 108 [(0, .ref t), (1, .ref p1), (2, .int s1), (3, .int s18)] [.int v28, .int v27, .int s1, .ref v26]
          refine v_ior X dX11_hang_108 ?_
          refine v_iast X hd dX11_hang_109 (fun h hd => ?_)
          refine v_aload_n X dX11_hang_110 0 0 rfl rfl ?_
          refine v_getR X hd fl_X11_17 dX11_hang_111 (fun v29 hd => ?_)
          refine v_iload_n X dX11_hang_114 2 2 rfl rfl ?_
          refine v_aldR X hd 4 rfl (by decide) (by decide) dX11_hang_115 (fun v30 hd => ?_)
          refine v_aload_n X dX11_hang_116 0 0 rfl rfl ?_
          refine v_iload_n X dX11_hang_117 2 2 rfl rfl ?_
          refine v_iload_n X dX11_hang_118 3 3 rfl rfl ?_
          refine v_callV X hd hle (ct_X11_leaf_2 _ t s1 s18) gCl_X11 (lw_V q978 q979 q980 q125 q981) ⟨rfl, dn_X11_leaf_2⟩ rfl ⟨by decide, by decide⟩ rfl (Nat.le_of_ble_eq_true rfl) dX11_hang_119 (fun v31 h hd => ?_)
          show V K 4 h 122 [(0, .ref t), (1, .ref p1), (2, .int s1), (3, .int s18)] [.ref v31, .ref v30]
          refine v_callV X hd hle (ct_X12_add _ v30 v31) gCl_X12 (lw_V q992 q993 q994 q126 q995) ⟨rfl, dn_X12_add⟩ rfl ⟨by decide, by decide⟩ rfl (Nat.le_of_ble_eq_true rfl) dX11_hang_122 (fun v32 h hd => ?_)
          show V K 4 h 125 [(0, .ref t), (1, .ref p1), (2, .int s1), (3, .int s18)] []
          exact v_loc [0, 1, 2, 3] rfl (v_at (P := fun (u24 : Unit) h => V K 4 h 125 [(0, .ref t), (1, .ref p1), (2, .int s1), (3, .int s18)] []) hd KJ)
        · have hd := cnd_f q hd
          refine v_goto (tgt := 125) X dX11_hang_94 (by decide) ?_
          exact v_loc [0, 1, 2, 3] rfl (v_at (P := fun (u24 : Unit) h => V K 4 h 125 [(0, .ref t), (1, .ref p1), (2, .int s1), (3, .int s18)] []) hd KJ)
    have hle := (Mo.le hd2).tr hle
    clear hd2
    refine v_loc [1, 2, 3, 0] rfl ?_
    refine loop_ind hd (fun (s5 : Int32) h => V K 4 h 9 [(0, .ref t), (1, .ref p1), (2, .int s1), (3, .int s5)] []) (fun s5 h x h2 hd hle0 ih6 ho7 => ?_)
    have hle := hle0.tr hle
    refine v_iload_n X dX11_hang_9 3 3 rfl rfl ?_
    refine v_iconst (v := 3) X dX11_hang_10 (by decide) ?_
    refine v_icmp_ge (tgt := 54) X dX11_hang_11 (by decide) (fun q => ?_) (fun q => ?_)
    · have hd := ite_t q hd
      exact v_loc [0, 1, 2] rfl (v_at (P := fun (e8 : Unit) h => V K 4 h 54 [(0, .ref t), (1, .ref p1), (2, .int s1)] []) (lp_out hd ho7) KX)
    · have hd := ite_f q hd
      refine v_aload_n X dX11_hang_14 0 0 rfl rfl ?_
      refine v_getR X hd fl_X11_11 dX11_hang_15 (fun v9 hd => ?_)
      refine v_iconst (v := 3) X dX11_hang_18 (by decide) ?_
      refine v_iload_n X dX11_hang_19 2 2 rfl rfl ?_
      refine v_imul X dX11_hang_20 ?_
      refine v_iload_n X dX11_hang_21 3 3 rfl rfl ?_
      refine v_iadd X dX11_hang_22 ?_
      refine v_aload_n X dX11_hang_23 0 0 rfl rfl ?_
      refine v_iload_n X dX11_hang_24 2 2 rfl rfl ?_
      refine v_iload_n X dX11_hang_25 3 3 rfl rfl ?_
      obtain ⟨u10, h1, hd, hd2⟩ := Mo.bind_some hd
      have KJ : V K 4 h1 34 [(0, .ref t), (1, .ref p1), (2, .int s1), (3, .int s5)] [.int (b2i u10), .int s1, .ref t, .int ((3 * s1) + s5), .ref v9] := by
        clear hd
        have hd := hd2
        refine v_iload_n X dX11_hang_34 3 3 rfl rfl ?_
        refine v_iconst (v := 1) X dX11_hang_35 (by decide) ?_
        obtain ⟨u11, h1, hd, hd2⟩ := Mo.bind_some hd
        have KJ : V K 4 h1 44 [(0, .ref t), (1, .ref p1), (2, .int s1), (3, .int s5)] [.int (b2i u11), .int (b2i u10), .int s1, .ref t, .int ((3 * s1) + s5), .ref v9] := by
          clear hd
          have hd := hd2
          refine v_callV X hd hle (ct_X11_leaf _ t s1 u10 u11) gCl_X11 (lw_V q928 q930 qs8 q125 q931) ⟨rfl, dn_X11_leaf⟩ rfl ⟨by decide, by decide⟩ rfl (Nat.le_of_ble_eq_true rfl) dX11_hang_44 (fun v12 h hd => ?_)
          show V K 4 h 47 [(0, .ref t), (1, .ref p1), (2, .int s1), (3, .int s5)] [.ref v12, .int ((3 * s1) + s5), .ref v9]
          refine v_astN (x := (some v12)) X hd 4 rfl (by decide) (by decide) gca_4 dX11_hang_47 (fun h hd => ?_)
          refine v_iincL (lv2 := fun v13 => [(3, .int v13), (0, .ref t), (1, .ref p1), (2, .int s1)]) X hd dX11_hang_48 3 rfl (by decide : Int32.ofInt 1 = 1) (by decide) (fun v13 => rfl) (fun v13 hd => ?_)
          refine v_goto (tgt := 9) X dX11_hang_51 (by decide) ?_
          exact v_loc [1, 2, 3, 0] rfl (lp_in (P := fun (s5 : Int32) h => V K 4 h 9 [(0, .ref t), (1, .ref p1), (2, .int s1), (3, .int s5)] []) hd ih6)
        have hle := (Mo.le hd2).tr hle
        clear hd2
        refine v_icmp_ne (tgt := 43) X dX11_hang_36 (by decide) (fun q => ?_) (fun q => ?_)
        · have hd := ite_f q hd
          refine v_iconst (v := 0) X dX11_hang_43 (by decide) ?_
          exact v_loc [0, 1, 2, 3] rfl (v_at (P := fun (u11 : Bool) h => V K 4 h 44 [(0, .ref t), (1, .ref p1), (2, .int s1), (3, .int s5)] [.int (b2i u11), .int (b2i u10), .int s1, .ref t, .int ((3 * s1) + s5), .ref v9]) hd KJ)
        · have hd := ite_t q hd
          refine v_iconst (v := 1) X dX11_hang_39 (by decide) ?_
          refine v_goto (tgt := 44) X dX11_hang_40 (by decide) ?_
          exact v_loc [0, 1, 2, 3] rfl (v_at (P := fun (u11 : Bool) h => V K 4 h 44 [(0, .ref t), (1, .ref p1), (2, .int s1), (3, .int s5)] [.int (b2i u11), .int (b2i u10), .int s1, .ref t, .int ((3 * s1) + s5), .ref v9]) hd KJ)
      have hle := (Mo.le hd2).tr hle
      clear hd2
      refine v_if_ne (tgt := 33) X dX11_hang_26 (by decide) (fun q => ?_) (fun q => ?_)
      · have hd := ite_f q hd
        refine v_iconst (v := 0) X dX11_hang_33 (by decide) ?_
        exact v_loc [0, 1, 2, 3] rfl (v_at (P := fun (u10 : Bool) h => V K 4 h 34 [(0, .ref t), (1, .ref p1), (2, .int s1), (3, .int s5)] [.int (b2i u10), .int s1, .ref t, .int ((3 * s1) + s5), .ref v9]) hd KJ)
      · have hd := ite_t q hd
        refine v_iconst (v := 1) X dX11_hang_29 (by decide) ?_
        refine v_goto (tgt := 34) X dX11_hang_30 (by decide) ?_
        exact v_loc [0, 1, 2, 3] rfl (v_at (P := fun (u10 : Bool) h => V K 4 h 34 [(0, .ref t), (1, .ref p1), (2, .int s1), (3, .int s5)] [.int (b2i u10), .int s1, .ref t, .int ((3 * s1) + s5), .ref v9]) hd KJ)
def dkwX4_settle_6 : List UInt8 := [167, 255, 162, 132, 2, 1, 167, 255, 149, 132, 1, 1, 167, 255, 133, 177]
abbrev dktX4_settle_6 : List UInt8 := dkwX4_settle_6 ++ []
def dkwX4_settle_5 : List UInt8 := [167, 255, 199, 42, 180, 0, 24, 7, 27, 104, 28, 96, 16, 10, 104, 29, 96, 21, 4, 79, 132, 3, 1]
abbrev dktX4_settle_5 : List UInt8 := dkwX4_settle_5 ++ dktX4_settle_6
def dkwX4_settle_4 : List UInt8 := [50, 182, 0, 66, 158, 0, 11, 21, 5, 184, 0, 70, 167, 0, 4, 3, 128, 54, 4, 132, 5, 1]
abbrev dktX4_settle_4 : List UInt8 := dkwX4_settle_4 ++ dktX4_settle_5
def dkwX4_settle_3 : List UInt8 := [21, 4, 42, 180, 0, 20, 27, 50, 180, 0, 62, 28, 50, 42, 180, 0, 20, 29, 50, 180, 0, 62, 21, 5]
abbrev dktX4_settle_3 : List UInt8 := dkwX4_settle_3 ++ dktX4_settle_4
def dkwX4_settle_2 : List UInt8 := [180, 0, 55, 162, 0, 92, 3, 54, 4, 3, 54, 5, 21, 5, 7, 162, 0, 57, 29, 27, 159, 0, 52]
abbrev dktX4_settle_2 : List UInt8 := dkwX4_settle_2 ++ dktX4_settle_3
def dkwX4_settle_1 : List UInt8 := [167, 255, 235, 3, 60, 27, 42, 180, 0, 55, 162, 0, 121, 3, 61, 28, 7, 162, 0, 108, 3, 62, 29, 42]
abbrev dktX4_settle_1 : List UInt8 := dkwX4_settle_1 ++ dktX4_settle_2
def dkwX4_settle_0 : List UInt8 := [3, 60, 27, 42, 180, 0, 55, 162, 0, 19, 42, 180, 0, 20, 27, 50, 42, 182, 0, 58, 132, 1, 1]
abbrev dktX4_settle_0 : List UInt8 := dkwX4_settle_0 ++ dktX4_settle_1
theorem dksX4_settle_0 : cX4_settle.data.toList.drop 0 = dktX4_settle_0 := by decide +kernel
theorem dksX4_settle_1 : cX4_settle.data.toList.drop 23 = dktX4_settle_1 := dk_seg dksX4_settle_0 23 rfl rfl
theorem dksX4_settle_2 : cX4_settle.data.toList.drop 47 = dktX4_settle_2 := dk_seg dksX4_settle_1 24 rfl rfl
theorem dksX4_settle_3 : cX4_settle.data.toList.drop 70 = dktX4_settle_3 := dk_seg dksX4_settle_2 23 rfl rfl
theorem dksX4_settle_4 : cX4_settle.data.toList.drop 94 = dktX4_settle_4 := dk_seg dksX4_settle_3 24 rfl rfl
theorem dksX4_settle_5 : cX4_settle.data.toList.drop 116 = dktX4_settle_5 := dk_seg dksX4_settle_4 22 rfl rfl
theorem dksX4_settle_6 : cX4_settle.data.toList.drop 139 = dktX4_settle_6 := dk_seg dksX4_settle_5 23 rfl rfl
theorem dX4_settle_0 : decode cX4_settle 0 = .ok (.iconst 0, 1) := dk_3 (dk_at dksX4_settle_0 0 rfl rfl)
theorem dX4_settle_1 : decode cX4_settle 1 = .ok (.istore_n 1, 1) := dk_60 (dk_at dksX4_settle_0 1 rfl rfl)
theorem dX4_settle_2 : decode cX4_settle 2 = .ok (.iload_n 1, 1) := dk_27 (dk_at dksX4_settle_0 2 rfl rfl)
theorem dX4_settle_3 : decode cX4_settle 3 = .ok (.aload_n 0, 1) := dk_42 (dk_at dksX4_settle_0 3 rfl rfl)
theorem dX4_settle_4 : decode cX4_settle 4 = .ok (.getfield 55, 3) := dk_180 0 55 (dk_at dksX4_settle_0 4 rfl rfl)
theorem dX4_settle_7 : decode cX4_settle 7 = .ok (.if_icmp .ge 19, 3) := dk_162 0 19 (dk_at dksX4_settle_0 7 rfl rfl)
theorem dX4_settle_10 : decode cX4_settle 10 = .ok (.aload_n 0, 1) := dk_42 (dk_at dksX4_settle_0 10 rfl rfl)
theorem dX4_settle_11 : decode cX4_settle 11 = .ok (.getfield 20, 3) := dk_180 0 20 (dk_at dksX4_settle_0 11 rfl rfl)
theorem dX4_settle_14 : decode cX4_settle 14 = .ok (.iload_n 1, 1) := dk_27 (dk_at dksX4_settle_0 14 rfl rfl)
theorem dX4_settle_15 : decode cX4_settle 15 = .ok (.aaload, 1) := dk_50 (dk_at dksX4_settle_0 15 rfl rfl)
theorem dX4_settle_16 : decode cX4_settle 16 = .ok (.aload_n 0, 1) := dk_42 (dk_at dksX4_settle_0 16 rfl rfl)
theorem dX4_settle_17 : decode cX4_settle 17 = .ok (.invokevirtual 58, 3) := dk_182 0 58 (dk_at dksX4_settle_0 17 rfl rfl)
theorem dX4_settle_20 : decode cX4_settle 20 = .ok (.iinc 1 1, 3) := dk_132 1 1 (dk_at dksX4_settle_0 20 rfl rfl)
theorem dX4_settle_23 : decode cX4_settle 23 = .ok (.goto (-21), 3) := dk_167 255 235 (dk_at dksX4_settle_1 0 rfl rfl)
theorem dX4_settle_26 : decode cX4_settle 26 = .ok (.iconst 0, 1) := dk_3 (dk_at dksX4_settle_1 3 rfl rfl)
theorem dX4_settle_27 : decode cX4_settle 27 = .ok (.istore_n 1, 1) := dk_60 (dk_at dksX4_settle_1 4 rfl rfl)
theorem dX4_settle_28 : decode cX4_settle 28 = .ok (.iload_n 1, 1) := dk_27 (dk_at dksX4_settle_1 5 rfl rfl)
theorem dX4_settle_29 : decode cX4_settle 29 = .ok (.aload_n 0, 1) := dk_42 (dk_at dksX4_settle_1 6 rfl rfl)
theorem dX4_settle_30 : decode cX4_settle 30 = .ok (.getfield 55, 3) := dk_180 0 55 (dk_at dksX4_settle_1 7 rfl rfl)
theorem dX4_settle_33 : decode cX4_settle 33 = .ok (.if_icmp .ge 121, 3) := dk_162 0 121 (dk_at dksX4_settle_1 10 rfl rfl)
theorem dX4_settle_36 : decode cX4_settle 36 = .ok (.iconst 0, 1) := dk_3 (dk_at dksX4_settle_1 13 rfl rfl)
theorem dX4_settle_37 : decode cX4_settle 37 = .ok (.istore_n 2, 1) := dk_61 (dk_at dksX4_settle_1 14 rfl rfl)
theorem dX4_settle_38 : decode cX4_settle 38 = .ok (.iload_n 2, 1) := dk_28 (dk_at dksX4_settle_1 15 rfl rfl)
theorem dX4_settle_39 : decode cX4_settle 39 = .ok (.iconst 4, 1) := dk_7 (dk_at dksX4_settle_1 16 rfl rfl)
theorem dX4_settle_40 : decode cX4_settle 40 = .ok (.if_icmp .ge 108, 3) := dk_162 0 108 (dk_at dksX4_settle_1 17 rfl rfl)
theorem dX4_settle_43 : decode cX4_settle 43 = .ok (.iconst 0, 1) := dk_3 (dk_at dksX4_settle_1 20 rfl rfl)
theorem dX4_settle_44 : decode cX4_settle 44 = .ok (.istore_n 3, 1) := dk_62 (dk_at dksX4_settle_1 21 rfl rfl)
theorem dX4_settle_45 : decode cX4_settle 45 = .ok (.iload_n 3, 1) := dk_29 (dk_at dksX4_settle_1 22 rfl rfl)
theorem dX4_settle_46 : decode cX4_settle 46 = .ok (.aload_n 0, 1) := dk_42 (dk_at dksX4_settle_1 23 rfl rfl)
theorem dX4_settle_47 : decode cX4_settle 47 = .ok (.getfield 55, 3) := dk_180 0 55 (dk_at dksX4_settle_2 0 rfl rfl)
theorem dX4_settle_50 : decode cX4_settle 50 = .ok (.if_icmp .ge 92, 3) := dk_162 0 92 (dk_at dksX4_settle_2 3 rfl rfl)
theorem dX4_settle_53 : decode cX4_settle 53 = .ok (.iconst 0, 1) := dk_3 (dk_at dksX4_settle_2 6 rfl rfl)
theorem dX4_settle_54 : decode cX4_settle 54 = .ok (.istore 4, 2) := dk_54 4 (dk_at dksX4_settle_2 7 rfl rfl)
theorem dX4_settle_56 : decode cX4_settle 56 = .ok (.iconst 0, 1) := dk_3 (dk_at dksX4_settle_2 9 rfl rfl)
theorem dX4_settle_57 : decode cX4_settle 57 = .ok (.istore 5, 2) := dk_54 5 (dk_at dksX4_settle_2 10 rfl rfl)
theorem dX4_settle_59 : decode cX4_settle 59 = .ok (.iload 5, 2) := dk_21 5 (dk_at dksX4_settle_2 12 rfl rfl)
theorem dX4_settle_61 : decode cX4_settle 61 = .ok (.iconst 4, 1) := dk_7 (dk_at dksX4_settle_2 14 rfl rfl)
theorem dX4_settle_62 : decode cX4_settle 62 = .ok (.if_icmp .ge 57, 3) := dk_162 0 57 (dk_at dksX4_settle_2 15 rfl rfl)
theorem dX4_settle_65 : decode cX4_settle 65 = .ok (.iload_n 3, 1) := dk_29 (dk_at dksX4_settle_2 18 rfl rfl)
theorem dX4_settle_66 : decode cX4_settle 66 = .ok (.iload_n 1, 1) := dk_27 (dk_at dksX4_settle_2 19 rfl rfl)
theorem dX4_settle_67 : decode cX4_settle 67 = .ok (.if_icmp .eq 52, 3) := dk_159 0 52 (dk_at dksX4_settle_2 20 rfl rfl)
theorem dX4_settle_70 : decode cX4_settle 70 = .ok (.iload 4, 2) := dk_21 4 (dk_at dksX4_settle_3 0 rfl rfl)
theorem dX4_settle_72 : decode cX4_settle 72 = .ok (.aload_n 0, 1) := dk_42 (dk_at dksX4_settle_3 2 rfl rfl)
theorem dX4_settle_73 : decode cX4_settle 73 = .ok (.getfield 20, 3) := dk_180 0 20 (dk_at dksX4_settle_3 3 rfl rfl)
theorem dX4_settle_76 : decode cX4_settle 76 = .ok (.iload_n 1, 1) := dk_27 (dk_at dksX4_settle_3 6 rfl rfl)
theorem dX4_settle_77 : decode cX4_settle 77 = .ok (.aaload, 1) := dk_50 (dk_at dksX4_settle_3 7 rfl rfl)
theorem dX4_settle_78 : decode cX4_settle 78 = .ok (.getfield 62, 3) := dk_180 0 62 (dk_at dksX4_settle_3 8 rfl rfl)
theorem dX4_settle_81 : decode cX4_settle 81 = .ok (.iload_n 2, 1) := dk_28 (dk_at dksX4_settle_3 11 rfl rfl)
theorem dX4_settle_82 : decode cX4_settle 82 = .ok (.aaload, 1) := dk_50 (dk_at dksX4_settle_3 12 rfl rfl)
theorem dX4_settle_83 : decode cX4_settle 83 = .ok (.aload_n 0, 1) := dk_42 (dk_at dksX4_settle_3 13 rfl rfl)
theorem dX4_settle_84 : decode cX4_settle 84 = .ok (.getfield 20, 3) := dk_180 0 20 (dk_at dksX4_settle_3 14 rfl rfl)
theorem dX4_settle_87 : decode cX4_settle 87 = .ok (.iload_n 3, 1) := dk_29 (dk_at dksX4_settle_3 17 rfl rfl)
theorem dX4_settle_88 : decode cX4_settle 88 = .ok (.aaload, 1) := dk_50 (dk_at dksX4_settle_3 18 rfl rfl)
theorem dX4_settle_89 : decode cX4_settle 89 = .ok (.getfield 62, 3) := dk_180 0 62 (dk_at dksX4_settle_3 19 rfl rfl)
theorem dX4_settle_92 : decode cX4_settle 92 = .ok (.iload 5, 2) := dk_21 5 (dk_at dksX4_settle_3 22 rfl rfl)
theorem dX4_settle_94 : decode cX4_settle 94 = .ok (.aaload, 1) := dk_50 (dk_at dksX4_settle_4 0 rfl rfl)
theorem dX4_settle_95 : decode cX4_settle 95 = .ok (.invokevirtual 66, 3) := dk_182 0 66 (dk_at dksX4_settle_4 1 rfl rfl)
theorem dX4_settle_98 : decode cX4_settle 98 = .ok (.ifCond .le 11, 3) := dk_158 0 11 (dk_at dksX4_settle_4 4 rfl rfl)
theorem dX4_settle_101 : decode cX4_settle 101 = .ok (.iload 5, 2) := dk_21 5 (dk_at dksX4_settle_4 7 rfl rfl)
theorem dX4_settle_103 : decode cX4_settle 103 = .ok (.invokestatic 70, 3) := dk_184 0 70 (dk_at dksX4_settle_4 9 rfl rfl)
theorem dX4_settle_106 : decode cX4_settle 106 = .ok (.goto 4, 3) := dk_167 0 4 (dk_at dksX4_settle_4 12 rfl rfl)
theorem dX4_settle_109 : decode cX4_settle 109 = .ok (.iconst 0, 1) := dk_3 (dk_at dksX4_settle_4 15 rfl rfl)
theorem dX4_settle_110 : decode cX4_settle 110 = .ok (.ior, 1) := dk_128 (dk_at dksX4_settle_4 16 rfl rfl)
theorem dX4_settle_111 : decode cX4_settle 111 = .ok (.istore 4, 2) := dk_54 4 (dk_at dksX4_settle_4 17 rfl rfl)
theorem dX4_settle_113 : decode cX4_settle 113 = .ok (.iinc 5 1, 3) := dk_132 5 1 (dk_at dksX4_settle_4 19 rfl rfl)
theorem dX4_settle_116 : decode cX4_settle 116 = .ok (.goto (-57), 3) := dk_167 255 199 (dk_at dksX4_settle_5 0 rfl rfl)
theorem dX4_settle_119 : decode cX4_settle 119 = .ok (.aload_n 0, 1) := dk_42 (dk_at dksX4_settle_5 3 rfl rfl)
theorem dX4_settle_120 : decode cX4_settle 120 = .ok (.getfield 24, 3) := dk_180 0 24 (dk_at dksX4_settle_5 4 rfl rfl)
theorem dX4_settle_123 : decode cX4_settle 123 = .ok (.iconst 4, 1) := dk_7 (dk_at dksX4_settle_5 7 rfl rfl)
theorem dX4_settle_124 : decode cX4_settle 124 = .ok (.iload_n 1, 1) := dk_27 (dk_at dksX4_settle_5 8 rfl rfl)
theorem dX4_settle_125 : decode cX4_settle 125 = .ok (.imul, 1) := dk_104 (dk_at dksX4_settle_5 9 rfl rfl)
theorem dX4_settle_126 : decode cX4_settle 126 = .ok (.iload_n 2, 1) := dk_28 (dk_at dksX4_settle_5 10 rfl rfl)
theorem dX4_settle_127 : decode cX4_settle 127 = .ok (.iadd, 1) := dk_96 (dk_at dksX4_settle_5 11 rfl rfl)
theorem dX4_settle_128 : decode cX4_settle 128 = .ok (.bipush 10, 2) := dk_16 10 (dk_at dksX4_settle_5 12 rfl rfl)
theorem dX4_settle_130 : decode cX4_settle 130 = .ok (.imul, 1) := dk_104 (dk_at dksX4_settle_5 14 rfl rfl)
theorem dX4_settle_131 : decode cX4_settle 131 = .ok (.iload_n 3, 1) := dk_29 (dk_at dksX4_settle_5 15 rfl rfl)
theorem dX4_settle_132 : decode cX4_settle 132 = .ok (.iadd, 1) := dk_96 (dk_at dksX4_settle_5 16 rfl rfl)
theorem dX4_settle_133 : decode cX4_settle 133 = .ok (.iload 4, 2) := dk_21 4 (dk_at dksX4_settle_5 17 rfl rfl)
theorem dX4_settle_135 : decode cX4_settle 135 = .ok (.iastore, 1) := dk_79 (dk_at dksX4_settle_5 19 rfl rfl)
theorem dX4_settle_136 : decode cX4_settle 136 = .ok (.iinc 3 1, 3) := dk_132 3 1 (dk_at dksX4_settle_5 20 rfl rfl)
theorem dX4_settle_139 : decode cX4_settle 139 = .ok (.goto (-94), 3) := dk_167 255 162 (dk_at dksX4_settle_6 0 rfl rfl)
theorem dX4_settle_142 : decode cX4_settle 142 = .ok (.iinc 2 1, 3) := dk_132 2 1 (dk_at dksX4_settle_6 3 rfl rfl)
theorem dX4_settle_145 : decode cX4_settle 145 = .ok (.goto (-107), 3) := dk_167 255 149 (dk_at dksX4_settle_6 6 rfl rfl)
theorem dX4_settle_148 : decode cX4_settle 148 = .ok (.iinc 1 1, 3) := dk_132 1 1 (dk_at dksX4_settle_6 9 rfl rfl)
theorem dX4_settle_151 : decode cX4_settle 151 = .ok (.goto (-123), 3) := dk_167 255 133 (dk_at dksX4_settle_6 12 rfl rfl)
theorem dX4_settle_154 : decode cX4_settle 154 = .ok (.return_, 1) := dk_177 (dk_at dksX4_settle_6 15 rfl rfl)
theorem fl_X4_55 : gFl "BitingDoors$House" 55 [3] 6 := by
  intro args s hts hN ci hc
  simp only [List.mem_cons, List.not_mem_nil, or_false] at hc
  subst hc
  exact ⟨RX4, TX4, 9, "BitingDoors$House", gCl_X4, in_X4, by decide, Or.inl (hts _ q288), fun _ h => h⟩
theorem fl_X4_62 : gFl "BitingDoors$House" 62 [9] 6 := by
  intro args s hts hN ci hc
  simp only [List.mem_cons, List.not_mem_nil, or_false] at hc
  subst hc
  exact ⟨RX11, TX11, 12, "BitingDoors$Door", gCl_X11, in_X11, by decide, Or.inr ⟨"BitingDoors", va_Nw.use rfl (hN.1 ("BitingDoors$House", 62, "BitingDoors$Door", "swept", "[LBitingDoors$Cells;", "BitingDoors") (List.mem_of_getElem? (i := 33) rfl))⟩, fun _ h => h⟩
theorem dn_X4_settle : yX4_settle.cls ≠ "java/lang/invoke/MethodHandle" ∧ yX4_settle.cls ≠ "java/lang/invoke/VarHandle" ∧ (parseMethodDescriptor yX4_settle.desc).map (fun d => d.parameters.length) = some 0 := by decide +kernel
noncomputable def M_X4_settle (t : Nat) : Mo Unit := Mo.bind (chk [3] t) (fun _ => Mo.bind (Mo.loop (S := Int32) (E := Unit) (fun s1 => Mo.bind (gI [3] t 6) (fun v5 => if v5 ≤ s1 then Mo.pure (Sum.inr ()) else Mo.bind (gR [3] t 2) (fun v6 => Mo.bind (aldR 5 v6 s1) (fun v7 => Mo.bind (M_X11_hang v7 t) (fun v8 => Mo.lv (s1 + 1) (fun v9 => Mo.pure (Sum.inl v9))))))) 0) (fun e4 => Mo.bind (Mo.loop (S := Int32) (E := Unit) (fun s10 => Mo.bind (gI [3] t 6) (fun v14 => if v14 ≤ s10 then Mo.pure (Sum.inr ()) else Mo.bind (Mo.loop (S := Int32) (E := Unit) (fun s15 => if 4 ≤ s15 then Mo.pure (Sum.inr ()) else Mo.bind (Mo.loop (S := Int32) (E := Unit) (fun s19 => Mo.bind (gI [3] t 6) (fun v23 => if v23 ≤ s19 then Mo.pure (Sum.inr ()) else Mo.bind (Mo.loop (S := Int32 × Int32) (E := Int32) (fun s24 => if 4 ≤ s24.2 then Mo.pure (Sum.inr s24.1) else if s19 = s10 then Mo.pure (Sum.inr s24.1) else Mo.bind (gR [3] t 2) (fun v28 => Mo.bind (aldR 5 v28 s10) (fun v29 => Mo.bind (gR [9] v29 6) (fun v30 => Mo.bind (aldR 4 v30 s15) (fun v31 => Mo.bind (gR [3] t 2) (fun v32 => Mo.bind (aldR 5 v32 s19) (fun v33 => Mo.bind (gR [9] v33 6) (fun v34 => Mo.bind (aldR 4 v34 s24.2) (fun v35 => Mo.bind (M_X12_shared v31 v35) (fun v36 => Mo.bind ((if v36 ≤ 0 then Mo.pure 0 else Mo.bind (M_X1_one s24.2) (fun v40 => Mo.pure v40) : Mo (Int32))) (fun u37 => Mo.lv (s24.1 ||| u37) (fun v38 => Mo.lv (s24.2 + 1) (fun v39 => Mo.pure (Sum.inl (v38, v39))))))))))))))) (0, 0)) (fun e27 => Mo.bind (gR [3] t 3) (fun v41 => Mo.bind (astI 0 v41 ((((4 * s10) + s15) * 10) + s19) e27) (fun _ => Mo.lv (s19 + 1) (fun v42 => Mo.pure (Sum.inl v42))))))) 0) (fun e22 => Mo.lv (s15 + 1) (fun v43 => Mo.pure (Sum.inl v43)))) 0) (fun e18 => Mo.lv (s10 + 1) (fun v44 => Mo.pure (Sum.inl v44))))) 0) (fun e13 => Mo.pure ())))
set_option maxHeartbeats 4000000 in
theorem ct_X4_settle (G : gG) (t : Nat) : gCt G yX4_settle cX4_settle 6 none 5 120 [.ref t] (M_X4_settle t) (fun _ : Unit => none) := by
  refine gCt.of (by decide) (Nat.le_of_ble_eq_true rfl) (fun K r hG X hd ho => ?_)
  subst hG
  have X : gX K cX4_settle 6 "BitingDoors$House" "settle" none 5 120 := X
  have hle : gLe (kh1 K) (kh1 K) := gLe.rf
  show V K 6 (kh0 K) 0 [(0, .ref t)] []
  generalize kh0 K = h at hd ⊢
  unfold M_X4_settle at hd
  obtain ⟨-, hd⟩ := chk_some hd
  refine v_iconst (v := 0) X dX4_settle_0 (by decide) ?_
  refine v_istore_n (lv2 := [(1, .int 0), (0, .ref t)]) X dX4_settle_1 1 rfl (by decide) rfl ?_
  obtain ⟨e4, h1, hd, hd2⟩ := Mo.bind_some hd
  have KX : V K 6 h1 26 [(0, .ref t)] [] := by
    clear hd
    have hd := hd2
    refine v_iconst (v := 0) X dX4_settle_26 (by decide) ?_
    refine v_istore_n (lv2 := [(1, .int 0), (0, .ref t)]) X dX4_settle_27 1 rfl (by decide) rfl ?_
    obtain ⟨e13, h1, hd, hd2⟩ := Mo.bind_some hd
    have KX : V K 6 h1 154 [] [] := by
      clear hd
      have hd := hd2
      exact v_vret X hd ho dX4_settle_154
    have hle := (Mo.le hd2).tr hle
    clear hd2
    refine v_loc [1, 0] rfl ?_
    refine loop_ind hd (fun (s10 : Int32) h => V K 6 h 28 [(0, .ref t), (1, .int s10)] []) (fun s10 h x h2 hd hle0 ih11 ho12 => ?_)
    have hle := hle0.tr hle
    refine v_iload_n X dX4_settle_28 1 1 rfl rfl ?_
    refine v_aload_n X dX4_settle_29 0 0 rfl rfl ?_
    refine v_getI X hd fl_X4_55 dX4_settle_30 (fun v14 hd => ?_)
    refine v_icmp_ge (tgt := 154) X dX4_settle_33 (by decide) (fun q => ?_) (fun q => ?_)
    · have hd := ite_t q hd
      exact v_loc [] rfl (v_at (P := fun (e13 : Unit) h => V K 6 h 154 [] []) (lp_out hd ho12) KX)
    · have hd := ite_f q hd
      refine v_iconst (v := 0) X dX4_settle_36 (by decide) ?_
      refine v_istore_n (lv2 := [(2, .int 0), (0, .ref t), (1, .int s10)]) X dX4_settle_37 2 rfl (by decide) rfl ?_
      obtain ⟨e18, h1, hd, hd2⟩ := Mo.bind_some hd
      have KX : V K 6 h1 148 [(0, .ref t), (1, .int s10)] [] := by
        clear hd
        have hd := hd2
        refine v_iincL (lv2 := fun v44 => [(1, .int v44), (0, .ref t)]) X hd dX4_settle_148 1 rfl (by decide : Int32.ofInt 1 = 1) (by decide) (fun v44 => rfl) (fun v44 hd => ?_)
        refine v_goto (tgt := 28) X dX4_settle_151 (by decide) ?_
        exact v_loc [1, 0] rfl (lp_in (P := fun (s10 : Int32) h => V K 6 h 28 [(0, .ref t), (1, .int s10)] []) hd ih11)
      have hle := (Mo.le hd2).tr hle
      clear hd2
      refine v_loc [1, 2, 0] rfl ?_
      refine loop_ind hd (fun (s15 : Int32) h => V K 6 h 38 [(0, .ref t), (1, .int s10), (2, .int s15)] []) (fun s15 h x h2 hd hle0 ih16 ho17 => ?_)
      have hle := hle0.tr hle
      refine v_iload_n X dX4_settle_38 2 2 rfl rfl ?_
      refine v_iconst (v := 4) X dX4_settle_39 (by decide) ?_
      refine v_icmp_ge (tgt := 148) X dX4_settle_40 (by decide) (fun q => ?_) (fun q => ?_)
      · have hd := ite_t q hd
        exact v_loc [0, 1] rfl (v_at (P := fun (e18 : Unit) h => V K 6 h 148 [(0, .ref t), (1, .int s10)] []) (lp_out hd ho17) KX)
      · have hd := ite_f q hd
        refine v_iconst (v := 0) X dX4_settle_43 (by decide) ?_
        refine v_istore_n (lv2 := [(3, .int 0), (0, .ref t), (1, .int s10), (2, .int s15)]) X dX4_settle_44 3 rfl (by decide) rfl ?_
        obtain ⟨e22, h1, hd, hd2⟩ := Mo.bind_some hd
        have KX : V K 6 h1 142 [(0, .ref t), (1, .int s10), (2, .int s15)] [] := by
          clear hd
          have hd := hd2
          refine v_iincL (lv2 := fun v43 => [(2, .int v43), (0, .ref t), (1, .int s10)]) X hd dX4_settle_142 2 rfl (by decide : Int32.ofInt 1 = 1) (by decide) (fun v43 => rfl) (fun v43 hd => ?_)
          refine v_goto (tgt := 38) X dX4_settle_145 (by decide) ?_
          exact v_loc [1, 2, 0] rfl (lp_in (P := fun (s15 : Int32) h => V K 6 h 38 [(0, .ref t), (1, .int s10), (2, .int s15)] []) hd ih16)
        have hle := (Mo.le hd2).tr hle
        clear hd2
        refine v_loc [1, 2, 3, 0] rfl ?_
        refine loop_ind hd (fun (s19 : Int32) h => V K 6 h 45 [(0, .ref t), (1, .int s10), (2, .int s15), (3, .int s19)] []) (fun s19 h x h2 hd hle0 ih20 ho21 => ?_)
        have hle := hle0.tr hle
        refine v_iload_n X dX4_settle_45 3 3 rfl rfl ?_
        refine v_aload_n X dX4_settle_46 0 0 rfl rfl ?_
        refine v_getI X hd fl_X4_55 dX4_settle_47 (fun v23 hd => ?_)
        refine v_icmp_ge (tgt := 142) X dX4_settle_50 (by decide) (fun q => ?_) (fun q => ?_)
        · have hd := ite_t q hd
          exact v_loc [0, 1, 2] rfl (v_at (P := fun (e22 : Unit) h => V K 6 h 142 [(0, .ref t), (1, .int s10), (2, .int s15)] []) (lp_out hd ho21) KX)
        · have hd := ite_f q hd
          refine v_iconst (v := 0) X dX4_settle_53 (by decide) ?_
          refine v_istore (lv2 := [(4, .int 0), (0, .ref t), (1, .int s10), (2, .int s15), (3, .int s19)]) X dX4_settle_54 (by decide) rfl ?_
          refine v_iconst (v := 0) X dX4_settle_56 (by decide) ?_
          refine v_istore (lv2 := [(5, .int 0), (4, .int 0), (0, .ref t), (1, .int s10), (2, .int s15), (3, .int s19)]) X dX4_settle_57 (by decide) rfl ?_
          obtain ⟨e27, h1, hd, hd2⟩ := Mo.bind_some hd
          have KX : V K 6 h1 119 [(0, .ref t), (1, .int s10), (2, .int s15), (3, .int s19), (4, .int e27)] [] := by
            clear hd
            have hd := hd2
            refine v_aload_n X dX4_settle_119 0 0 rfl rfl ?_
            refine v_getR X hd fl_X4_24 dX4_settle_120 (fun v41 hd => ?_)
            refine v_iconst (v := 4) X dX4_settle_123 (by decide) ?_
            refine v_iload_n X dX4_settle_124 1 1 rfl rfl ?_
            refine v_imul X dX4_settle_125 ?_
            refine v_iload_n X dX4_settle_126 2 2 rfl rfl ?_
            refine v_iadd X dX4_settle_127 ?_
            refine v_bipush (v := 10) X dX4_settle_128 (by decide) ?_
            refine v_imul X dX4_settle_130 ?_
            refine v_iload_n X dX4_settle_131 3 3 rfl rfl ?_
            refine v_iadd X dX4_settle_132 ?_
            refine v_iload X dX4_settle_133 4 rfl ?_
            refine v_iast X hd dX4_settle_135 (fun h hd => ?_)
            refine v_iincL (lv2 := fun v42 => [(3, .int v42), (0, .ref t), (1, .int s10), (2, .int s15), (4, .int e27)]) X hd dX4_settle_136 3 rfl (by decide : Int32.ofInt 1 = 1) (by decide) (fun v42 => rfl) (fun v42 hd => ?_)
            refine v_goto (tgt := 45) X dX4_settle_139 (by decide) ?_
            exact v_loc [1, 2, 3, 0] rfl (lp_in (P := fun (s19 : Int32) h => V K 6 h 45 [(0, .ref t), (1, .int s10), (2, .int s15), (3, .int s19)] []) hd ih20)
          have hle := (Mo.le hd2).tr hle
          clear hd2
          refine v_loc [2, 3, 4, 5, 1, 0] rfl ?_
          refine loop_ind hd (fun (s24 : Int32 × Int32) h => V K 6 h 59 [(0, .ref t), (1, .int s10), (2, .int s15), (3, .int s19), (4, .int s24.1), (5, .int s24.2)] []) (fun s24 h x h2 hd hle0 ih25 ho26 => ?_)
          have hle := hle0.tr hle
          refine v_iload X dX4_settle_59 5 rfl ?_
          refine v_iconst (v := 4) X dX4_settle_61 (by decide) ?_
          refine v_icmp_ge (tgt := 119) X dX4_settle_62 (by decide) (fun q => ?_) (fun q => ?_)
          · have hd := ite_t q hd
            exact v_loc [0, 1, 2, 3, 4] rfl (v_at (P := fun (e27 : Int32) h => V K 6 h 119 [(0, .ref t), (1, .int s10), (2, .int s15), (3, .int s19), (4, .int e27)] []) (lp_out hd ho26) KX)
          · have hd := ite_f q hd
            refine v_iload_n X dX4_settle_65 3 3 rfl rfl ?_
            refine v_iload_n X dX4_settle_66 1 1 rfl rfl ?_
            refine v_icmp_eq (tgt := 119) X dX4_settle_67 (by decide) (fun q => ?_) (fun q => ?_)
            · have hd := ite_t q hd
              exact v_loc [0, 1, 2, 3, 4] rfl (v_at (P := fun (e27 : Int32) h => V K 6 h 119 [(0, .ref t), (1, .int s10), (2, .int s15), (3, .int s19), (4, .int e27)] []) (lp_out hd ho26) KX)
            · have hd := ite_f q hd
              refine v_iload X dX4_settle_70 4 rfl ?_
              refine v_aload_n X dX4_settle_72 0 0 rfl rfl ?_
              refine v_getR X hd fl_X4_20 dX4_settle_73 (fun v28 hd => ?_)
              refine v_iload_n X dX4_settle_76 1 1 rfl rfl ?_
              refine v_aldR X hd 5 rfl (by decide) (by decide) dX4_settle_77 (fun v29 hd => ?_)
              refine v_getR X hd fl_X4_62 dX4_settle_78 (fun v30 hd => ?_)
              refine v_iload_n X dX4_settle_81 2 2 rfl rfl ?_
              refine v_aldR X hd 4 rfl (by decide) (by decide) dX4_settle_82 (fun v31 hd => ?_)
              refine v_aload_n X dX4_settle_83 0 0 rfl rfl ?_
              refine v_getR X hd fl_X4_20 dX4_settle_84 (fun v32 hd => ?_)
              refine v_iload_n X dX4_settle_87 3 3 rfl rfl ?_
              refine v_aldR X hd 5 rfl (by decide) (by decide) dX4_settle_88 (fun v33 hd => ?_)
              refine v_getR X hd fl_X4_62 dX4_settle_89 (fun v34 hd => ?_)
              refine v_iload X dX4_settle_92 5 rfl ?_
              refine v_aldR X hd 4 rfl (by decide) (by decide) dX4_settle_94 (fun v35 hd => ?_)
              refine v_callV X hd hle (ct_X12_shared _ v31 v35) gCl_X12 (lw_V q996 q997 q998 q126 q999) ⟨rfl, dn_X12_shared⟩ rfl ⟨by decide, by decide⟩ rfl (Nat.le_of_ble_eq_true rfl) dX4_settle_95 (fun v36 h hd => ?_)
              show V K 6 h 98 [(0, .ref t), (1, .int s10), (2, .int s15), (3, .int s19), (4, .int s24.1), (5, .int s24.2)] [.int v36, .int s24.1]
              obtain ⟨u37, h1, hd, hd2⟩ := Mo.bind_some hd
              have KJ : V K 6 h1 110 [(0, .ref t), (1, .int s10), (2, .int s15), (3, .int s19), (5, .int s24.2)] [.int u37, .int s24.1] := by
                clear hd
                have hd := hd2
                refine v_ior X dX4_settle_110 ?_
                refine v_lvI hd (fun v38 hd => ?_)
                refine v_istore (lv2 := [(4, .int v38), (0, .ref t), (1, .int s10), (2, .int s15), (3, .int s19), (5, .int s24.2)]) X dX4_settle_111 (by decide) rfl ?_
                refine v_iincL (lv2 := fun v39 => [(5, .int v39), (4, .int v38), (0, .ref t), (1, .int s10), (2, .int s15), (3, .int s19)]) X hd dX4_settle_113 5 rfl (by decide : Int32.ofInt 1 = 1) (by decide) (fun v39 => rfl) (fun v39 hd => ?_)
                refine v_goto (tgt := 59) X dX4_settle_116 (by decide) ?_
                exact v_loc [2, 3, 4, 5, 1, 0] rfl (lp_in (P := fun (s24 : Int32 × Int32) h => V K 6 h 59 [(0, .ref t), (1, .int s10), (2, .int s15), (3, .int s19), (4, .int s24.1), (5, .int s24.2)] []) hd ih25)
              have hle := (Mo.le hd2).tr hle
              clear hd2
              refine v_if_le (tgt := 109) X dX4_settle_98 (by decide) (fun q => ?_) (fun q => ?_)
              · have hd := ite_t q hd
                refine v_iconst (v := 0) X dX4_settle_109 (by decide) ?_
                exact v_loc [0, 1, 2, 3, 5] rfl (v_at (P := fun (u37 : Int32) h => V K 6 h 110 [(0, .ref t), (1, .int s10), (2, .int s15), (3, .int s19), (5, .int s24.2)] [.int u37, .int s24.1]) hd KJ)
              · have hd := ite_f q hd
                refine v_iload X dX4_settle_101 5 rfl ?_
                refine v_callSN (host := "BitingDoors") X hd hle (ct_X1_one _ s24.2) (List.mem_of_getElem? (i := 4) rfl) q896 q895 q109 dn_X1_one rfl ⟨by decide, by decide⟩ rfl (Nat.le_of_ble_eq_true rfl) dX4_settle_103 (fun v40 h hd => ?_)
                show V K 6 h 106 [(0, .ref t), (1, .int s10), (2, .int s15), (3, .int s19), (4, .int s24.1), (5, .int s24.2)] [.int v40, .int s24.1]
                refine v_goto (tgt := 110) X dX4_settle_106 (by decide) ?_
                exact v_loc [0, 1, 2, 3, 5] rfl (v_at (P := fun (u37 : Int32) h => V K 6 h 110 [(0, .ref t), (1, .int s10), (2, .int s15), (3, .int s19), (5, .int s24.2)] [.int u37, .int s24.1]) hd KJ)
  have hle := (Mo.le hd2).tr hle
  clear hd2
  refine v_loc [1, 0] rfl ?_
  refine loop_ind hd (fun (s1 : Int32) h => V K 6 h 2 [(0, .ref t), (1, .int s1)] []) (fun s1 h x h2 hd hle0 ih2 ho3 => ?_)
  have hle := hle0.tr hle
  refine v_iload_n X dX4_settle_2 1 1 rfl rfl ?_
  refine v_aload_n X dX4_settle_3 0 0 rfl rfl ?_
  refine v_getI X hd fl_X4_55 dX4_settle_4 (fun v5 hd => ?_)
  refine v_icmp_ge (tgt := 26) X dX4_settle_7 (by decide) (fun q => ?_) (fun q => ?_)
  · have hd := ite_t q hd
    exact v_loc [0] rfl (v_at (P := fun (e4 : Unit) h => V K 6 h 26 [(0, .ref t)] []) (lp_out hd ho3) KX)
  · have hd := ite_f q hd
    refine v_aload_n X dX4_settle_10 0 0 rfl rfl ?_
    refine v_getR X hd fl_X4_20 dX4_settle_11 (fun v6 hd => ?_)
    refine v_iload_n X dX4_settle_14 1 1 rfl rfl ?_
    refine v_aldR X hd 5 rfl (by decide) (by decide) dX4_settle_15 (fun v7 hd => ?_)
    refine v_aload_n X dX4_settle_16 0 0 rfl rfl ?_
    refine v_callV X hd hle (ct_X11_hang _ v7 t) gCl_X11 (lw_V q924 q925 q926 q125 q927) ⟨rfl, dn_X11_hang⟩ rfl ⟨by decide, by decide⟩ rfl (Nat.le_of_ble_eq_true rfl) dX4_settle_17 (fun v8 h hd => ?_)
    show V K 6 h 20 [(0, .ref t), (1, .int s1)] []
    refine v_iincL (lv2 := fun v9 => [(1, .int v9), (0, .ref t)]) X hd dX4_settle_20 1 rfl (by decide : Int32.ofInt 1 = 1) (by decide) (fun v9 => rfl) (fun v9 hd => ?_)
    refine v_goto (tgt := 2) X dX4_settle_23 (by decide) ?_
    exact v_loc [1, 0] rfl (lp_in (P := fun (s1 : Int32) h => V K 6 h 2 [(0, .ref t), (1, .int s1)] []) hd ih2)
def dkwX5_init_0 : List UInt8 := [42, 183, 0, 3, 42, 16, 60, 189, 0, 9, 181, 0, 11, 177]
abbrev dktX5_init_0 : List UInt8 := dkwX5_init_0 ++ []
theorem dksX5_init_0 : cX5_init.data.toList.drop 0 = dktX5_init_0 := by decide +kernel
theorem dX5_init_0 : decode cX5_init 0 = .ok (.aload_n 0, 1) := dk_42 (dk_at dksX5_init_0 0 rfl rfl)
theorem dX5_init_1 : decode cX5_init 1 = .ok (.invokespecial 3, 3) := dk_183 0 3 (dk_at dksX5_init_0 1 rfl rfl)
theorem dX5_init_4 : decode cX5_init 4 = .ok (.aload_n 0, 1) := dk_42 (dk_at dksX5_init_0 4 rfl rfl)
theorem dX5_init_5 : decode cX5_init 5 = .ok (.bipush 60, 2) := dk_16 60 (dk_at dksX5_init_0 5 rfl rfl)
theorem dX5_init_7 : decode cX5_init 7 = .ok (.anewarray 9, 3) := dk_189 0 9 (dk_at dksX5_init_0 7 rfl rfl)
theorem dX5_init_10 : decode cX5_init 10 = .ok (.putfield 11, 3) := dk_181 0 11 (dk_at dksX5_init_0 10 rfl rfl)
theorem dX5_init_13 : decode cX5_init 13 = .ok (.return_, 1) := dk_177 (dk_at dksX5_init_0 13 rfl rfl)
theorem fp_X5_11_i : gFp "BitingDoors$Day" "<init>" 11 [4] 0 (.array (.object "BitingDoors$Act")) := by
  intro args s hts hN ci hc
  simp only [List.mem_cons, List.not_mem_nil, or_false] at hc
  subst hc
  exact ⟨RX5, TX5, 2, "BitingDoors$Day", gCl_X5, in_X5, by decide, Or.inr ⟨rfl, rfl, rfl, gFin hts in_X5 (k := 0) (by decide) rfl, hts _ q366⟩, fun _ h => h, rfl, fun D tys hK => gap_X5 hts hK⟩
theorem dn_X5_init : yX5_init.cls ≠ "java/lang/invoke/MethodHandle" ∧ yX5_init.cls ≠ "java/lang/invoke/VarHandle" ∧ (parseMethodDescriptor yX5_init.desc).map (fun d => d.parameters.length) = some 0 := by decide +kernel
noncomputable def M_X5_init (t : Nat) : Mo Unit := Mo.bind (nwR 6 60) (fun q1 => Mo.bind (pF [4] t 0 (.ref q1)) (fun _ => Mo.pure ()))
set_option maxHeartbeats 4000000 in
theorem ct_X5_init (G : gG) (t : Nat) : gCt G yX5_init cX5_init 1 none 1 20 [.ref t] (M_X5_init t) (fun _ : Unit => none) := by
  refine gCt.of (by decide) (Nat.le_of_ble_eq_true rfl) (fun K r hG X hd ho => ?_)
  subst hG
  have X : gX K cX5_init 1 "BitingDoors$Day" "<init>" none 1 20 := X
  have hle : gLe (kh1 K) (kh1 K) := gLe.rf
  show V K 1 (kh0 K) 0 [(0, .ref t)] []
  generalize kh0 K = h at hd ⊢
  unfold M_X5_init at hd
  refine v_aload_n X dX5_init_0 0 0 rfl rfl ?_
  refine v_objInit X q363 q152 q153 (Nat.le_of_ble_eq_true rfl) dX5_init_1 (by decide) (by decide) ?_
  refine v_aload_n X dX5_init_4 0 0 rfl rfl ?_
  refine v_bipush (v := 60) X dX5_init_5 (by decide) ?_
  refine v_newR X hd hle 6 rfl q364 (by decide) dX5_init_7 (fun q1 h hd => ?_)
  refine v_put (v := .ref q1) X hd fp_X5_11_i rfl rfl dX5_init_10 (fun h hd => ?_)
  exact v_vret X hd ho dX5_init_13
def dkwX14_init_0 : List UInt8 := [42, 183, 0, 1, 42, 27, 181, 0, 7, 42, 28, 181, 0, 13, 177]
abbrev dktX14_init_0 : List UInt8 := dkwX14_init_0 ++ []
theorem dksX14_init_0 : cX14_init.data.toList.drop 0 = dktX14_init_0 := by decide +kernel
theorem dX14_init_0 : decode cX14_init 0 = .ok (.aload_n 0, 1) := dk_42 (dk_at dksX14_init_0 0 rfl rfl)
theorem dX14_init_1 : decode cX14_init 1 = .ok (.invokespecial 1, 3) := dk_183 0 1 (dk_at dksX14_init_0 1 rfl rfl)
theorem dX14_init_4 : decode cX14_init 4 = .ok (.aload_n 0, 1) := dk_42 (dk_at dksX14_init_0 4 rfl rfl)
theorem dX14_init_5 : decode cX14_init 5 = .ok (.iload_n 1, 1) := dk_27 (dk_at dksX14_init_0 5 rfl rfl)
theorem dX14_init_6 : decode cX14_init 6 = .ok (.putfield 7, 3) := dk_181 0 7 (dk_at dksX14_init_0 6 rfl rfl)
theorem dX14_init_9 : decode cX14_init 9 = .ok (.aload_n 0, 1) := dk_42 (dk_at dksX14_init_0 9 rfl rfl)
theorem dX14_init_10 : decode cX14_init 10 = .ok (.iload_n 2, 1) := dk_28 (dk_at dksX14_init_0 10 rfl rfl)
theorem dX14_init_11 : decode cX14_init 11 = .ok (.putfield 13, 3) := dk_181 0 13 (dk_at dksX14_init_0 11 rfl rfl)
theorem dX14_init_14 : decode cX14_init 14 = .ok (.return_, 1) := dk_177 (dk_at dksX14_init_0 14 rfl rfl)
theorem fp_X14_13_i : gFp "BitingDoors$Go" "<init>" 13 [11] 1 .int := by
  intro args s hts hN ci hc
  simp only [List.mem_cons, List.not_mem_nil, or_false] at hc
  subst hc
  exact ⟨RX14, TX14, 2, "BitingDoors$Go", gCl_X14, in_X14, by decide, Or.inr ⟨rfl, rfl, rfl, gFin hts in_X14 (k := 1) (by decide) rfl, hts _ q1054⟩, fun _ h => h, rfl, fun D tys hK => gap_X14 hts hK⟩
theorem fp_X14_7_i : gFp "BitingDoors$Go" "<init>" 7 [11] 0 .int := by
  intro args s hts hN ci hc
  simp only [List.mem_cons, List.not_mem_nil, or_false] at hc
  subst hc
  exact ⟨RX14, TX14, 2, "BitingDoors$Go", gCl_X14, in_X14, by decide, Or.inr ⟨rfl, rfl, rfl, gFin hts in_X14 (k := 0) (by decide) rfl, hts _ q1053⟩, fun _ h => h, rfl, fun D tys hK => gap_X14 hts hK⟩
theorem dn_X14_init : yX14_init.cls ≠ "java/lang/invoke/MethodHandle" ∧ yX14_init.cls ≠ "java/lang/invoke/VarHandle" ∧ (parseMethodDescriptor yX14_init.desc).map (fun d => d.parameters.length) = some 2 := by decide +kernel
noncomputable def M_X14_init (t : Nat) (p1 : Int32) (p2 : Int32) : Mo Unit := Mo.bind (M_X13_init t) (fun v1 => Mo.bind (pF [11] t 0 (.int p1)) (fun _ => Mo.bind (pF [11] t 1 (.int p2)) (fun _ => Mo.pure ())))
set_option maxHeartbeats 4000000 in
theorem ct_X14_init (G : gG) (t : Nat) (p1 : Int32) (p2 : Int32) : gCt G yX14_init cX14_init 3 none 2 40 [.ref t, .int p1, .int p2] (M_X14_init t p1 p2) (fun _ : Unit => none) := by
  refine gCt.of (by decide) (Nat.le_of_ble_eq_true rfl) (fun K r hG X hd ho => ?_)
  subst hG
  have X : gX K cX14_init 3 "BitingDoors$Go" "<init>" none 2 40 := X
  have hle : gLe (kh1 K) (kh1 K) := gLe.rf
  show V K 3 (kh0 K) 0 [(0, .ref t), (1, .int p1), (2, .int p2)] []
  generalize kh0 K = h at hd ⊢
  unfold M_X14_init at hd
  refine v_aload_n X dX14_init_0 0 0 rfl rfl ?_
  refine v_callIN (host := "BitingDoors") X hd hle (ct_X13_init _ t) (List.mem_of_getElem? (i := 15) rfl) q1051 q133 q1050 rfl dn_X13_init rfl ⟨by decide, by decide⟩ rfl (Nat.le_of_ble_eq_true rfl) dX14_init_1 (fun v1 h hd => ?_)
  show V K 3 h 4 [(0, .ref t), (1, .int p1), (2, .int p2)] []
  refine v_aload_n X dX14_init_4 0 0 rfl rfl ?_
  refine v_iload_n X dX14_init_5 1 1 rfl rfl ?_
  refine v_put (v := .int p1) X hd fp_X14_7_i rfl rfl dX14_init_6 (fun h hd => ?_)
  refine v_aload_n X dX14_init_9 0 0 rfl rfl ?_
  refine v_iload_n X dX14_init_10 2 2 rfl rfl ?_
  refine v_put (v := .int p2) X hd fp_X14_13_i rfl rfl dX14_init_11 (fun h hd => ?_)
  exact v_vret X hd ho dX14_init_14
def dkwX16_init_0 : List UInt8 := [42, 27, 183, 0, 3, 177]
abbrev dktX16_init_0 : List UInt8 := dkwX16_init_0 ++ []
theorem dksX16_init_0 : cX16_init.data.toList.drop 0 = dktX16_init_0 := by decide +kernel
theorem dX16_init_0 : decode cX16_init 0 = .ok (.aload_n 0, 1) := dk_42 (dk_at dksX16_init_0 0 rfl rfl)
theorem dX16_init_1 : decode cX16_init 1 = .ok (.iload_n 1, 1) := dk_27 (dk_at dksX16_init_0 1 rfl rfl)
theorem dX16_init_2 : decode cX16_init 2 = .ok (.invokespecial 3, 3) := dk_183 0 3 (dk_at dksX16_init_0 2 rfl rfl)
theorem dX16_init_5 : decode cX16_init 5 = .ok (.return_, 1) := dk_177 (dk_at dksX16_init_0 5 rfl rfl)
theorem dn_X16_init : yX16_init.cls ≠ "java/lang/invoke/MethodHandle" ∧ yX16_init.cls ≠ "java/lang/invoke/VarHandle" ∧ (parseMethodDescriptor yX16_init.desc).map (fun d => d.parameters.length) = some 1 := by decide +kernel
noncomputable def M_X16_init (t : Nat) (p1 : Int32) : Mo Unit := Mo.bind (M_X15_init t p1) (fun v1 => Mo.pure ())
set_option maxHeartbeats 4000000 in
theorem ct_X16_init (G : gG) (t : Nat) (p1 : Int32) : gCt G yX16_init cX16_init 2 none 3 61 [.ref t, .int p1] (M_X16_init t p1) (fun _ : Unit => none) := by
  refine gCt.of (by decide) (Nat.le_of_ble_eq_true rfl) (fun K r hG X hd ho => ?_)
  subst hG
  have X : gX K cX16_init 2 "BitingDoors$Open" "<init>" none 3 61 := X
  have hle : gLe (kh1 K) (kh1 K) := gLe.rf
  show V K 2 (kh0 K) 0 [(0, .ref t), (1, .int p1)] []
  generalize kh0 K = h at hd ⊢
  unfold M_X16_init at hd
  refine v_aload_n X dX16_init_0 0 0 rfl rfl ?_
  refine v_iload_n X dX16_init_1 1 1 rfl rfl ?_
  refine v_callI X hd hle (ct_X15_init _ t p1) q1075 q135 q1073 q1074 rfl dn_X15_init rfl ⟨by decide, by decide⟩ rfl (Nat.le_of_ble_eq_true rfl) dX16_init_2 (fun v1 h hd => ?_)
  show V K 2 h 5 [(0, .ref t), (1, .int p1)] []
  exact v_vret X hd ho dX16_init_5
def dkwX1_unfold_2 : List UInt8 := [180, 1, 33, 29, 28, 6, 112, 79, 28, 6, 108, 61, 132, 3, 1, 167, 255, 223, 177]
abbrev dktX1_unfold_2 : List UInt8 := dkwX1_unfold_2 ++ []
def dkwX1_unfold_1 : List UInt8 := [16, 100, 108, 61, 3, 62, 29, 42, 180, 0, 90, 180, 0, 243, 180, 0, 247, 162, 0, 25, 42, 180, 0, 94]
abbrev dktX1_unfold_1 : List UInt8 := dkwX1_unfold_1 ++ dktX1_unfold_2
def dkwX1_unfold_0 : List UInt8 := [42, 180, 0, 94, 42, 180, 0, 90, 182, 1, 182, 42, 180, 0, 94, 27, 16, 100, 112, 181, 1, 162, 27]
abbrev dktX1_unfold_0 : List UInt8 := dkwX1_unfold_0 ++ dktX1_unfold_1
theorem dksX1_unfold_0 : cX1_unfold.data.toList.drop 0 = dktX1_unfold_0 := by decide +kernel
theorem dksX1_unfold_1 : cX1_unfold.data.toList.drop 23 = dktX1_unfold_1 := dk_seg dksX1_unfold_0 23 rfl rfl
theorem dksX1_unfold_2 : cX1_unfold.data.toList.drop 47 = dktX1_unfold_2 := dk_seg dksX1_unfold_1 24 rfl rfl
theorem dX1_unfold_0 : decode cX1_unfold 0 = .ok (.aload_n 0, 1) := dk_42 (dk_at dksX1_unfold_0 0 rfl rfl)
theorem dX1_unfold_1 : decode cX1_unfold 1 = .ok (.getfield 94, 3) := dk_180 0 94 (dk_at dksX1_unfold_0 1 rfl rfl)
theorem dX1_unfold_4 : decode cX1_unfold 4 = .ok (.aload_n 0, 1) := dk_42 (dk_at dksX1_unfold_0 4 rfl rfl)
theorem dX1_unfold_5 : decode cX1_unfold 5 = .ok (.getfield 90, 3) := dk_180 0 90 (dk_at dksX1_unfold_0 5 rfl rfl)
theorem dX1_unfold_8 : decode cX1_unfold 8 = .ok (.invokevirtual 438, 3) := dk_182 1 182 (dk_at dksX1_unfold_0 8 rfl rfl)
theorem dX1_unfold_11 : decode cX1_unfold 11 = .ok (.aload_n 0, 1) := dk_42 (dk_at dksX1_unfold_0 11 rfl rfl)
theorem dX1_unfold_12 : decode cX1_unfold 12 = .ok (.getfield 94, 3) := dk_180 0 94 (dk_at dksX1_unfold_0 12 rfl rfl)
theorem dX1_unfold_15 : decode cX1_unfold 15 = .ok (.iload_n 1, 1) := dk_27 (dk_at dksX1_unfold_0 15 rfl rfl)
theorem dX1_unfold_16 : decode cX1_unfold 16 = .ok (.bipush 100, 2) := dk_16 100 (dk_at dksX1_unfold_0 16 rfl rfl)
theorem dX1_unfold_18 : decode cX1_unfold 18 = .ok (.irem, 1) := dk_112 (dk_at dksX1_unfold_0 18 rfl rfl)
theorem dX1_unfold_19 : decode cX1_unfold 19 = .ok (.putfield 418, 3) := dk_181 1 162 (dk_at dksX1_unfold_0 19 rfl rfl)
theorem dX1_unfold_22 : decode cX1_unfold 22 = .ok (.iload_n 1, 1) := dk_27 (dk_at dksX1_unfold_0 22 rfl rfl)
theorem dX1_unfold_23 : decode cX1_unfold 23 = .ok (.bipush 100, 2) := dk_16 100 (dk_at dksX1_unfold_1 0 rfl rfl)
theorem dX1_unfold_25 : decode cX1_unfold 25 = .ok (.idiv, 1) := dk_108 (dk_at dksX1_unfold_1 2 rfl rfl)
theorem dX1_unfold_26 : decode cX1_unfold 26 = .ok (.istore_n 2, 1) := dk_61 (dk_at dksX1_unfold_1 3 rfl rfl)
theorem dX1_unfold_27 : decode cX1_unfold 27 = .ok (.iconst 0, 1) := dk_3 (dk_at dksX1_unfold_1 4 rfl rfl)
theorem dX1_unfold_28 : decode cX1_unfold 28 = .ok (.istore_n 3, 1) := dk_62 (dk_at dksX1_unfold_1 5 rfl rfl)
theorem dX1_unfold_29 : decode cX1_unfold 29 = .ok (.iload_n 3, 1) := dk_29 (dk_at dksX1_unfold_1 6 rfl rfl)
theorem dX1_unfold_30 : decode cX1_unfold 30 = .ok (.aload_n 0, 1) := dk_42 (dk_at dksX1_unfold_1 7 rfl rfl)
theorem dX1_unfold_31 : decode cX1_unfold 31 = .ok (.getfield 90, 3) := dk_180 0 90 (dk_at dksX1_unfold_1 8 rfl rfl)
theorem dX1_unfold_34 : decode cX1_unfold 34 = .ok (.getfield 243, 3) := dk_180 0 243 (dk_at dksX1_unfold_1 11 rfl rfl)
theorem dX1_unfold_37 : decode cX1_unfold 37 = .ok (.getfield 247, 3) := dk_180 0 247 (dk_at dksX1_unfold_1 14 rfl rfl)
theorem dX1_unfold_40 : decode cX1_unfold 40 = .ok (.if_icmp .ge 25, 3) := dk_162 0 25 (dk_at dksX1_unfold_1 17 rfl rfl)
theorem dX1_unfold_43 : decode cX1_unfold 43 = .ok (.aload_n 0, 1) := dk_42 (dk_at dksX1_unfold_1 20 rfl rfl)
theorem dX1_unfold_44 : decode cX1_unfold 44 = .ok (.getfield 94, 3) := dk_180 0 94 (dk_at dksX1_unfold_1 21 rfl rfl)
theorem dX1_unfold_47 : decode cX1_unfold 47 = .ok (.getfield 289, 3) := dk_180 1 33 (dk_at dksX1_unfold_2 0 rfl rfl)
theorem dX1_unfold_50 : decode cX1_unfold 50 = .ok (.iload_n 3, 1) := dk_29 (dk_at dksX1_unfold_2 3 rfl rfl)
theorem dX1_unfold_51 : decode cX1_unfold 51 = .ok (.iload_n 2, 1) := dk_28 (dk_at dksX1_unfold_2 4 rfl rfl)
theorem dX1_unfold_52 : decode cX1_unfold 52 = .ok (.iconst 3, 1) := dk_6 (dk_at dksX1_unfold_2 5 rfl rfl)
theorem dX1_unfold_53 : decode cX1_unfold 53 = .ok (.irem, 1) := dk_112 (dk_at dksX1_unfold_2 6 rfl rfl)
theorem dX1_unfold_54 : decode cX1_unfold 54 = .ok (.iastore, 1) := dk_79 (dk_at dksX1_unfold_2 7 rfl rfl)
theorem dX1_unfold_55 : decode cX1_unfold 55 = .ok (.iload_n 2, 1) := dk_28 (dk_at dksX1_unfold_2 8 rfl rfl)
theorem dX1_unfold_56 : decode cX1_unfold 56 = .ok (.iconst 3, 1) := dk_6 (dk_at dksX1_unfold_2 9 rfl rfl)
theorem dX1_unfold_57 : decode cX1_unfold 57 = .ok (.idiv, 1) := dk_108 (dk_at dksX1_unfold_2 10 rfl rfl)
theorem dX1_unfold_58 : decode cX1_unfold 58 = .ok (.istore_n 2, 1) := dk_61 (dk_at dksX1_unfold_2 11 rfl rfl)
theorem dX1_unfold_59 : decode cX1_unfold 59 = .ok (.iinc 3 1, 3) := dk_132 3 1 (dk_at dksX1_unfold_2 12 rfl rfl)
theorem dX1_unfold_62 : decode cX1_unfold 62 = .ok (.goto (-33), 3) := dk_167 255 223 (dk_at dksX1_unfold_2 15 rfl rfl)
theorem dX1_unfold_65 : decode cX1_unfold 65 = .ok (.return_, 1) := dk_177 (dk_at dksX1_unfold_2 18 rfl rfl)
theorem fp_X1_418 {nm : String} : gFp "BitingDoors" nm 418 [2] 3 .int := by
  intro args s hts hN ci hc
  simp only [List.mem_cons, List.not_mem_nil, or_false] at hc
  subst hc
  exact ⟨RX3, TX3, 6, "BitingDoors$Walker", gCl_X3, in_X3, by decide, Or.inl ⟨rfl, Or.inr ⟨"BitingDoors", va_Nw.use rfl (hN.1 ("BitingDoors", 418, "BitingDoors$Walker", "place", "I", "BitingDoors") (List.mem_of_getElem? (i := 10) rfl))⟩⟩, fun _ h => h, rfl, fun D tys hK => gap_X3 hts hK⟩
theorem dn_X1_unfold : yX1_unfold.cls ≠ "java/lang/invoke/MethodHandle" ∧ yX1_unfold.cls ≠ "java/lang/invoke/VarHandle" ∧ (parseMethodDescriptor yX1_unfold.desc).map (fun d => d.parameters.length) = some 1 := by decide +kernel
noncomputable def M_X1_unfold (t : Nat) (p1 : Int32) : Mo Unit := Mo.bind (chk [0] t) (fun _ => Mo.bind (gR [0] t 10) (fun v1 => Mo.bind (gR [0] t 9) (fun v2 => Mo.bind (M_X3_be v1 v2) (fun v3 => Mo.bind (gR [0] t 10) (fun v4 => Mo.bind (pF [2] v4 3 (.int (p1 - p1 / 100 * 100))) (fun _ => Mo.lv (p1 / 100) (fun v5 => Mo.bind (Mo.loop (S := Int32 × Int32) (E := Unit) (fun s6 => Mo.bind (gR [0] t 9) (fun v10 => Mo.bind (gR [2] v10 0) (fun v11 => Mo.bind (gI [3] v11 6) (fun v12 => if v12 ≤ s6.2 then Mo.pure (Sum.inr ()) else Mo.bind (gR [0] t 10) (fun v13 => Mo.bind (gR [2] v13 2) (fun v14 => Mo.bind (astI 0 v14 s6.2 (s6.1 - s6.1 / 3 * 3)) (fun _ => Mo.lv (s6.1 / 3) (fun v15 => Mo.lv (s6.2 + 1) (fun v16 => Mo.pure (Sum.inl (v15, v16))))))))))) (v5, 0)) (fun e9 => Mo.pure ()))))))))
set_option maxHeartbeats 4000000 in
theorem ct_X1_unfold (G : gG) (t : Nat) (p1 : Int32) : gCt G yX1_unfold cX1_unfold 4 none 2 81 [.ref t, .int p1] (M_X1_unfold t p1) (fun _ : Unit => none) := by
  refine gCt.of (by decide) (Nat.le_of_ble_eq_true rfl) (fun K r hG X hd ho => ?_)
  subst hG
  have X : gX K cX1_unfold 4 "BitingDoors" "unfold" none 2 81 := X
  have hle : gLe (kh1 K) (kh1 K) := gLe.rf
  show V K 4 (kh0 K) 0 [(0, .ref t), (1, .int p1)] []
  generalize kh0 K = h at hd ⊢
  unfold M_X1_unfold at hd
  obtain ⟨-, hd⟩ := chk_some hd
  refine v_aload_n X dX1_unfold_0 0 0 rfl rfl ?_
  refine v_getR X hd fl_X1_94 dX1_unfold_1 (fun v1 hd => ?_)
  refine v_aload_n X dX1_unfold_4 0 0 rfl rfl ?_
  refine v_getR X hd fl_X1_90 dX1_unfold_5 (fun v2 hd => ?_)
  refine v_callV X hd hle (ct_X3_be _ v1 v2) gCl_X3 (lw_V q1335 q1336 q1337 q113 q1338) ⟨rfl, dn_X3_be⟩ rfl ⟨by decide, by decide⟩ rfl (Nat.le_of_ble_eq_true rfl) dX1_unfold_8 (fun v3 h hd => ?_)
  show V K 4 h 11 [(0, .ref t), (1, .int p1)] []
  refine v_aload_n X dX1_unfold_11 0 0 rfl rfl ?_
  refine v_getR X hd fl_X1_94 dX1_unfold_12 (fun v4 hd => ?_)
  refine v_iload_n X dX1_unfold_15 1 1 rfl rfl ?_
  refine v_bipush (v := 100) X dX1_unfold_16 (by decide) ?_
  refine v_irem X dX1_unfold_18 (by decide) ?_
  refine v_put (v := .int (p1 - p1 / 100 * 100)) X hd fp_X1_418 rfl rfl dX1_unfold_19 (fun h hd => ?_)
  refine v_iload_n X dX1_unfold_22 1 1 rfl rfl ?_
  refine v_bipush (v := 100) X dX1_unfold_23 (by decide) ?_
  refine v_idiv X dX1_unfold_25 (by decide) ?_
  refine v_lvI hd (fun v5 hd => ?_)
  refine v_istore_n (lv2 := [(2, .int v5), (0, .ref t), (1, .int p1)]) X dX1_unfold_26 2 rfl (by decide) rfl ?_
  refine v_iconst (v := 0) X dX1_unfold_27 (by decide) ?_
  refine v_istore_n (lv2 := [(3, .int 0), (2, .int v5), (0, .ref t), (1, .int p1)]) X dX1_unfold_28 3 rfl (by decide) rfl ?_
  obtain ⟨e9, h1, hd, hd2⟩ := Mo.bind_some hd
  have KX : V K 4 h1 65 [] [] := by
    clear hd
    have hd := hd2
    exact v_vret X hd ho dX1_unfold_65
  have hle := (Mo.le hd2).tr hle
  clear hd2
  refine v_loc [2, 1, 0] rfl ?_
  refine loop_ind hd (fun (s6 : Int32 × Int32) h => V K 4 h 29 [(0, .ref t), (2, .int s6.1), (3, .int s6.2)] []) (fun s6 h x h2 hd hle0 ih7 ho8 => ?_)
  have hle := hle0.tr hle
  refine v_iload_n X dX1_unfold_29 2 3 rfl rfl ?_
  refine v_aload_n X dX1_unfold_30 0 0 rfl rfl ?_
  refine v_getR X hd fl_X1_90 dX1_unfold_31 (fun v10 hd => ?_)
  refine v_getR X hd fl_X1_243 dX1_unfold_34 (fun v11 hd => ?_)
  refine v_getI X hd fl_X1_247 dX1_unfold_37 (fun v12 hd => ?_)
  refine v_icmp_ge (tgt := 65) X dX1_unfold_40 (by decide) (fun q => ?_) (fun q => ?_)
  · have hd := ite_t q hd
    exact v_loc [] rfl (v_at (P := fun (e9 : Unit) h => V K 4 h 65 [] []) (lp_out hd ho8) KX)
  · have hd := ite_f q hd
    refine v_aload_n X dX1_unfold_43 0 0 rfl rfl ?_
    refine v_getR X hd fl_X1_94 dX1_unfold_44 (fun v13 hd => ?_)
    refine v_getR X hd fl_X1_289 dX1_unfold_47 (fun v14 hd => ?_)
    refine v_iload_n X dX1_unfold_50 2 3 rfl rfl ?_
    refine v_iload_n X dX1_unfold_51 1 2 rfl rfl ?_
    refine v_iconst (v := 3) X dX1_unfold_52 (by decide) ?_
    refine v_irem X dX1_unfold_53 (by decide) ?_
    refine v_iast X hd dX1_unfold_54 (fun h hd => ?_)
    refine v_iload_n X dX1_unfold_55 1 2 rfl rfl ?_
    refine v_iconst (v := 3) X dX1_unfold_56 (by decide) ?_
    refine v_idiv X dX1_unfold_57 (by decide) ?_
    refine v_lvI hd (fun v15 hd => ?_)
    refine v_istore_n (lv2 := [(2, .int v15), (0, .ref t), (3, .int s6.2)]) X dX1_unfold_58 2 rfl (by decide) rfl ?_
    refine v_iincL (lv2 := fun v16 => [(3, .int v16), (2, .int v15), (0, .ref t)]) X hd dX1_unfold_59 2 rfl (by decide : Int32.ofInt 1 = 1) (by decide) (fun v16 => rfl) (fun v16 hd => ?_)
    refine v_goto (tgt := 29) X dX1_unfold_62 (by decide) ?_
    exact v_loc [2, 1, 0] rfl (lp_in (P := fun (s6 : Int32 × Int32) h => V K 4 h 29 [(0, .ref t), (2, .int s6.1), (3, .int s6.2)] []) hd ih7)
def dkwX1_rings_8 : List UInt8 := [167, 255, 151, 132, 3, 1, 167, 255, 114, 2, 172]
abbrev dktX1_rings_8 : List UInt8 := dkwX1_rings_8 ++ []
def dkwX1_rings_7 : List UInt8 := [42, 180, 0, 163, 42, 180, 1, 190, 21, 6, 79, 42, 89, 180, 1, 190, 4, 96, 181, 1, 190, 132, 5, 1]
abbrev dktX1_rings_7 : List UInt8 := dkwX1_rings_7 ++ dktX1_rings_8
def dkwX1_rings_6 : List UInt8 := [159, 0, 6, 167, 0, 42, 42, 180, 0, 157, 21, 6, 21, 4, 79, 42, 180, 0, 160, 21, 6, 21, 5, 79]
abbrev dktX1_rings_6 : List UInt8 := dkwX1_rings_6 ++ dktX1_rings_7
def dkwX1_rings_5 : List UInt8 := [158, 0, 6, 167, 0, 65, 42, 180, 0, 94, 184, 1, 187, 54, 6, 42, 180, 0, 157, 21, 6, 46, 2]
abbrev dktX1_rings_5 : List UInt8 := dkwX1_rings_5 ++ dktX1_rings_6
def dkwX1_rings_4 : List UInt8 := [180, 0, 247, 104, 96, 162, 0, 92, 42, 21, 4, 182, 1, 193, 42, 180, 0, 94, 21, 5, 182, 1, 163]
abbrev dktX1_rings_4 : List UInt8 := dkwX1_rings_4 ++ dktX1_rings_5
def dkwX1_rings_3 : List UInt8 := [16, 100, 112, 27, 160, 0, 6, 21, 4, 172, 3, 54, 5, 21, 5, 7, 5, 42, 180, 0, 90, 180, 0, 243]
abbrev dktX1_rings_3 : List UInt8 := dkwX1_rings_3 ++ dktX1_rings_4
def dkwX1_rings_2 : List UInt8 := [181, 1, 190, 3, 62, 29, 42, 180, 1, 190, 162, 0, 140, 42, 180, 0, 163, 29, 46, 54, 4, 21, 4]
abbrev dktX1_rings_2 : List UInt8 := dkwX1_rings_2 ++ dktX1_rings_3
def dkwX1_rings_1 : List UInt8 := [180, 0, 90, 184, 1, 187, 61, 42, 180, 0, 157, 28, 28, 79, 42, 180, 0, 163, 3, 28, 79, 42, 4]
abbrev dktX1_rings_1 : List UInt8 := dkwX1_rings_1 ++ dktX1_rings_2
def dkwX1_rings_0 : List UInt8 := [3, 61, 28, 17, 94, 236, 162, 0, 16, 42, 180, 0, 157, 28, 2, 79, 132, 2, 1, 167, 255, 239, 42]
abbrev dktX1_rings_0 : List UInt8 := dkwX1_rings_0 ++ dktX1_rings_1
theorem dksX1_rings_0 : cX1_rings.data.toList.drop 0 = dktX1_rings_0 := by decide +kernel
theorem dksX1_rings_1 : cX1_rings.data.toList.drop 23 = dktX1_rings_1 := dk_seg dksX1_rings_0 23 rfl rfl
theorem dksX1_rings_2 : cX1_rings.data.toList.drop 46 = dktX1_rings_2 := dk_seg dksX1_rings_1 23 rfl rfl
theorem dksX1_rings_3 : cX1_rings.data.toList.drop 69 = dktX1_rings_3 := dk_seg dksX1_rings_2 23 rfl rfl
theorem dksX1_rings_4 : cX1_rings.data.toList.drop 93 = dktX1_rings_4 := dk_seg dksX1_rings_3 24 rfl rfl
theorem dksX1_rings_5 : cX1_rings.data.toList.drop 116 = dktX1_rings_5 := dk_seg dksX1_rings_4 23 rfl rfl
theorem dksX1_rings_6 : cX1_rings.data.toList.drop 139 = dktX1_rings_6 := dk_seg dksX1_rings_5 23 rfl rfl
theorem dksX1_rings_7 : cX1_rings.data.toList.drop 163 = dktX1_rings_7 := dk_seg dksX1_rings_6 24 rfl rfl
theorem dksX1_rings_8 : cX1_rings.data.toList.drop 187 = dktX1_rings_8 := dk_seg dksX1_rings_7 24 rfl rfl
theorem dX1_rings_0 : decode cX1_rings 0 = .ok (.iconst 0, 1) := dk_3 (dk_at dksX1_rings_0 0 rfl rfl)
theorem dX1_rings_1 : decode cX1_rings 1 = .ok (.istore_n 2, 1) := dk_61 (dk_at dksX1_rings_0 1 rfl rfl)
theorem dX1_rings_2 : decode cX1_rings 2 = .ok (.iload_n 2, 1) := dk_28 (dk_at dksX1_rings_0 2 rfl rfl)
theorem dX1_rings_3 : decode cX1_rings 3 = .ok (.sipush 24300, 3) := dk_17 94 236 (dk_at dksX1_rings_0 3 rfl rfl)
theorem dX1_rings_6 : decode cX1_rings 6 = .ok (.if_icmp .ge 16, 3) := dk_162 0 16 (dk_at dksX1_rings_0 6 rfl rfl)
theorem dX1_rings_9 : decode cX1_rings 9 = .ok (.aload_n 0, 1) := dk_42 (dk_at dksX1_rings_0 9 rfl rfl)
theorem dX1_rings_10 : decode cX1_rings 10 = .ok (.getfield 157, 3) := dk_180 0 157 (dk_at dksX1_rings_0 10 rfl rfl)
theorem dX1_rings_13 : decode cX1_rings 13 = .ok (.iload_n 2, 1) := dk_28 (dk_at dksX1_rings_0 13 rfl rfl)
theorem dX1_rings_14 : decode cX1_rings 14 = .ok (.iconst (-1), 1) := dk_2 (dk_at dksX1_rings_0 14 rfl rfl)
theorem dX1_rings_15 : decode cX1_rings 15 = .ok (.iastore, 1) := dk_79 (dk_at dksX1_rings_0 15 rfl rfl)
theorem dX1_rings_16 : decode cX1_rings 16 = .ok (.iinc 2 1, 3) := dk_132 2 1 (dk_at dksX1_rings_0 16 rfl rfl)
theorem dX1_rings_19 : decode cX1_rings 19 = .ok (.goto (-17), 3) := dk_167 255 239 (dk_at dksX1_rings_0 19 rfl rfl)
theorem dX1_rings_22 : decode cX1_rings 22 = .ok (.aload_n 0, 1) := dk_42 (dk_at dksX1_rings_0 22 rfl rfl)
theorem dX1_rings_23 : decode cX1_rings 23 = .ok (.getfield 90, 3) := dk_180 0 90 (dk_at dksX1_rings_1 0 rfl rfl)
theorem dX1_rings_26 : decode cX1_rings 26 = .ok (.invokestatic 443, 3) := dk_184 1 187 (dk_at dksX1_rings_1 3 rfl rfl)
theorem dX1_rings_29 : decode cX1_rings 29 = .ok (.istore_n 2, 1) := dk_61 (dk_at dksX1_rings_1 6 rfl rfl)
theorem dX1_rings_30 : decode cX1_rings 30 = .ok (.aload_n 0, 1) := dk_42 (dk_at dksX1_rings_1 7 rfl rfl)
theorem dX1_rings_31 : decode cX1_rings 31 = .ok (.getfield 157, 3) := dk_180 0 157 (dk_at dksX1_rings_1 8 rfl rfl)
theorem dX1_rings_34 : decode cX1_rings 34 = .ok (.iload_n 2, 1) := dk_28 (dk_at dksX1_rings_1 11 rfl rfl)
theorem dX1_rings_35 : decode cX1_rings 35 = .ok (.iload_n 2, 1) := dk_28 (dk_at dksX1_rings_1 12 rfl rfl)
theorem dX1_rings_36 : decode cX1_rings 36 = .ok (.iastore, 1) := dk_79 (dk_at dksX1_rings_1 13 rfl rfl)
theorem dX1_rings_37 : decode cX1_rings 37 = .ok (.aload_n 0, 1) := dk_42 (dk_at dksX1_rings_1 14 rfl rfl)
theorem dX1_rings_38 : decode cX1_rings 38 = .ok (.getfield 163, 3) := dk_180 0 163 (dk_at dksX1_rings_1 15 rfl rfl)
theorem dX1_rings_41 : decode cX1_rings 41 = .ok (.iconst 0, 1) := dk_3 (dk_at dksX1_rings_1 18 rfl rfl)
theorem dX1_rings_42 : decode cX1_rings 42 = .ok (.iload_n 2, 1) := dk_28 (dk_at dksX1_rings_1 19 rfl rfl)
theorem dX1_rings_43 : decode cX1_rings 43 = .ok (.iastore, 1) := dk_79 (dk_at dksX1_rings_1 20 rfl rfl)
theorem dX1_rings_44 : decode cX1_rings 44 = .ok (.aload_n 0, 1) := dk_42 (dk_at dksX1_rings_1 21 rfl rfl)
theorem dX1_rings_45 : decode cX1_rings 45 = .ok (.iconst 1, 1) := dk_4 (dk_at dksX1_rings_1 22 rfl rfl)
theorem dX1_rings_46 : decode cX1_rings 46 = .ok (.putfield 446, 3) := dk_181 1 190 (dk_at dksX1_rings_2 0 rfl rfl)
theorem dX1_rings_49 : decode cX1_rings 49 = .ok (.iconst 0, 1) := dk_3 (dk_at dksX1_rings_2 3 rfl rfl)
theorem dX1_rings_50 : decode cX1_rings 50 = .ok (.istore_n 3, 1) := dk_62 (dk_at dksX1_rings_2 4 rfl rfl)
theorem dX1_rings_51 : decode cX1_rings 51 = .ok (.iload_n 3, 1) := dk_29 (dk_at dksX1_rings_2 5 rfl rfl)
theorem dX1_rings_52 : decode cX1_rings 52 = .ok (.aload_n 0, 1) := dk_42 (dk_at dksX1_rings_2 6 rfl rfl)
theorem dX1_rings_53 : decode cX1_rings 53 = .ok (.getfield 446, 3) := dk_180 1 190 (dk_at dksX1_rings_2 7 rfl rfl)
theorem dX1_rings_56 : decode cX1_rings 56 = .ok (.if_icmp .ge 140, 3) := dk_162 0 140 (dk_at dksX1_rings_2 10 rfl rfl)
theorem dX1_rings_59 : decode cX1_rings 59 = .ok (.aload_n 0, 1) := dk_42 (dk_at dksX1_rings_2 13 rfl rfl)
theorem dX1_rings_60 : decode cX1_rings 60 = .ok (.getfield 163, 3) := dk_180 0 163 (dk_at dksX1_rings_2 14 rfl rfl)
theorem dX1_rings_63 : decode cX1_rings 63 = .ok (.iload_n 3, 1) := dk_29 (dk_at dksX1_rings_2 17 rfl rfl)
theorem dX1_rings_64 : decode cX1_rings 64 = .ok (.iaload, 1) := dk_46 (dk_at dksX1_rings_2 18 rfl rfl)
theorem dX1_rings_65 : decode cX1_rings 65 = .ok (.istore 4, 2) := dk_54 4 (dk_at dksX1_rings_2 19 rfl rfl)
theorem dX1_rings_67 : decode cX1_rings 67 = .ok (.iload 4, 2) := dk_21 4 (dk_at dksX1_rings_2 21 rfl rfl)
theorem dX1_rings_69 : decode cX1_rings 69 = .ok (.bipush 100, 2) := dk_16 100 (dk_at dksX1_rings_3 0 rfl rfl)
theorem dX1_rings_71 : decode cX1_rings 71 = .ok (.irem, 1) := dk_112 (dk_at dksX1_rings_3 2 rfl rfl)
theorem dX1_rings_72 : decode cX1_rings 72 = .ok (.iload_n 1, 1) := dk_27 (dk_at dksX1_rings_3 3 rfl rfl)
theorem dX1_rings_73 : decode cX1_rings 73 = .ok (.if_icmp .ne 6, 3) := dk_160 0 6 (dk_at dksX1_rings_3 4 rfl rfl)
theorem dX1_rings_76 : decode cX1_rings 76 = .ok (.iload 4, 2) := dk_21 4 (dk_at dksX1_rings_3 7 rfl rfl)
theorem dX1_rings_78 : decode cX1_rings 78 = .ok (.ireturn, 1) := dk_172 (dk_at dksX1_rings_3 9 rfl rfl)
theorem dX1_rings_79 : decode cX1_rings 79 = .ok (.iconst 0, 1) := dk_3 (dk_at dksX1_rings_3 10 rfl rfl)
theorem dX1_rings_80 : decode cX1_rings 80 = .ok (.istore 5, 2) := dk_54 5 (dk_at dksX1_rings_3 11 rfl rfl)
theorem dX1_rings_82 : decode cX1_rings 82 = .ok (.iload 5, 2) := dk_21 5 (dk_at dksX1_rings_3 13 rfl rfl)
theorem dX1_rings_84 : decode cX1_rings 84 = .ok (.iconst 4, 1) := dk_7 (dk_at dksX1_rings_3 15 rfl rfl)
theorem dX1_rings_85 : decode cX1_rings 85 = .ok (.iconst 2, 1) := dk_5 (dk_at dksX1_rings_3 16 rfl rfl)
theorem dX1_rings_86 : decode cX1_rings 86 = .ok (.aload_n 0, 1) := dk_42 (dk_at dksX1_rings_3 17 rfl rfl)
theorem dX1_rings_87 : decode cX1_rings 87 = .ok (.getfield 90, 3) := dk_180 0 90 (dk_at dksX1_rings_3 18 rfl rfl)
theorem dX1_rings_90 : decode cX1_rings 90 = .ok (.getfield 243, 3) := dk_180 0 243 (dk_at dksX1_rings_3 21 rfl rfl)
theorem dX1_rings_93 : decode cX1_rings 93 = .ok (.getfield 247, 3) := dk_180 0 247 (dk_at dksX1_rings_4 0 rfl rfl)
theorem dX1_rings_96 : decode cX1_rings 96 = .ok (.imul, 1) := dk_104 (dk_at dksX1_rings_4 3 rfl rfl)
theorem dX1_rings_97 : decode cX1_rings 97 = .ok (.iadd, 1) := dk_96 (dk_at dksX1_rings_4 4 rfl rfl)
theorem dX1_rings_98 : decode cX1_rings 98 = .ok (.if_icmp .ge 92, 3) := dk_162 0 92 (dk_at dksX1_rings_4 5 rfl rfl)
theorem dX1_rings_101 : decode cX1_rings 101 = .ok (.aload_n 0, 1) := dk_42 (dk_at dksX1_rings_4 8 rfl rfl)
theorem dX1_rings_102 : decode cX1_rings 102 = .ok (.iload 4, 2) := dk_21 4 (dk_at dksX1_rings_4 9 rfl rfl)
theorem dX1_rings_104 : decode cX1_rings 104 = .ok (.invokevirtual 449, 3) := dk_182 1 193 (dk_at dksX1_rings_4 11 rfl rfl)
theorem dX1_rings_107 : decode cX1_rings 107 = .ok (.aload_n 0, 1) := dk_42 (dk_at dksX1_rings_4 14 rfl rfl)
theorem dX1_rings_108 : decode cX1_rings 108 = .ok (.getfield 94, 3) := dk_180 0 94 (dk_at dksX1_rings_4 15 rfl rfl)
theorem dX1_rings_111 : decode cX1_rings 111 = .ok (.iload 5, 2) := dk_21 5 (dk_at dksX1_rings_4 18 rfl rfl)
theorem dX1_rings_113 : decode cX1_rings 113 = .ok (.invokevirtual 419, 3) := dk_182 1 163 (dk_at dksX1_rings_4 20 rfl rfl)
theorem dX1_rings_116 : decode cX1_rings 116 = .ok (.ifCond .le 6, 3) := dk_158 0 6 (dk_at dksX1_rings_5 0 rfl rfl)
theorem dX1_rings_119 : decode cX1_rings 119 = .ok (.goto 65, 3) := dk_167 0 65 (dk_at dksX1_rings_5 3 rfl rfl)
theorem dX1_rings_122 : decode cX1_rings 122 = .ok (.aload_n 0, 1) := dk_42 (dk_at dksX1_rings_5 6 rfl rfl)
theorem dX1_rings_123 : decode cX1_rings 123 = .ok (.getfield 94, 3) := dk_180 0 94 (dk_at dksX1_rings_5 7 rfl rfl)
theorem dX1_rings_126 : decode cX1_rings 126 = .ok (.invokestatic 443, 3) := dk_184 1 187 (dk_at dksX1_rings_5 10 rfl rfl)
theorem dX1_rings_129 : decode cX1_rings 129 = .ok (.istore 6, 2) := dk_54 6 (dk_at dksX1_rings_5 13 rfl rfl)
theorem dX1_rings_131 : decode cX1_rings 131 = .ok (.aload_n 0, 1) := dk_42 (dk_at dksX1_rings_5 15 rfl rfl)
theorem dX1_rings_132 : decode cX1_rings 132 = .ok (.getfield 157, 3) := dk_180 0 157 (dk_at dksX1_rings_5 16 rfl rfl)
theorem dX1_rings_135 : decode cX1_rings 135 = .ok (.iload 6, 2) := dk_21 6 (dk_at dksX1_rings_5 19 rfl rfl)
theorem dX1_rings_137 : decode cX1_rings 137 = .ok (.iaload, 1) := dk_46 (dk_at dksX1_rings_5 21 rfl rfl)
theorem dX1_rings_138 : decode cX1_rings 138 = .ok (.iconst (-1), 1) := dk_2 (dk_at dksX1_rings_5 22 rfl rfl)
theorem dX1_rings_139 : decode cX1_rings 139 = .ok (.if_icmp .eq 6, 3) := dk_159 0 6 (dk_at dksX1_rings_6 0 rfl rfl)
theorem dX1_rings_142 : decode cX1_rings 142 = .ok (.goto 42, 3) := dk_167 0 42 (dk_at dksX1_rings_6 3 rfl rfl)
theorem dX1_rings_145 : decode cX1_rings 145 = .ok (.aload_n 0, 1) := dk_42 (dk_at dksX1_rings_6 6 rfl rfl)
theorem dX1_rings_146 : decode cX1_rings 146 = .ok (.getfield 157, 3) := dk_180 0 157 (dk_at dksX1_rings_6 7 rfl rfl)
theorem dX1_rings_149 : decode cX1_rings 149 = .ok (.iload 6, 2) := dk_21 6 (dk_at dksX1_rings_6 10 rfl rfl)
theorem dX1_rings_151 : decode cX1_rings 151 = .ok (.iload 4, 2) := dk_21 4 (dk_at dksX1_rings_6 12 rfl rfl)
theorem dX1_rings_153 : decode cX1_rings 153 = .ok (.iastore, 1) := dk_79 (dk_at dksX1_rings_6 14 rfl rfl)
theorem dX1_rings_154 : decode cX1_rings 154 = .ok (.aload_n 0, 1) := dk_42 (dk_at dksX1_rings_6 15 rfl rfl)
theorem dX1_rings_155 : decode cX1_rings 155 = .ok (.getfield 160, 3) := dk_180 0 160 (dk_at dksX1_rings_6 16 rfl rfl)
theorem dX1_rings_158 : decode cX1_rings 158 = .ok (.iload 6, 2) := dk_21 6 (dk_at dksX1_rings_6 19 rfl rfl)
theorem dX1_rings_160 : decode cX1_rings 160 = .ok (.iload 5, 2) := dk_21 5 (dk_at dksX1_rings_6 21 rfl rfl)
theorem dX1_rings_162 : decode cX1_rings 162 = .ok (.iastore, 1) := dk_79 (dk_at dksX1_rings_6 23 rfl rfl)
theorem dX1_rings_163 : decode cX1_rings 163 = .ok (.aload_n 0, 1) := dk_42 (dk_at dksX1_rings_7 0 rfl rfl)
theorem dX1_rings_164 : decode cX1_rings 164 = .ok (.getfield 163, 3) := dk_180 0 163 (dk_at dksX1_rings_7 1 rfl rfl)
theorem dX1_rings_167 : decode cX1_rings 167 = .ok (.aload_n 0, 1) := dk_42 (dk_at dksX1_rings_7 4 rfl rfl)
theorem dX1_rings_168 : decode cX1_rings 168 = .ok (.getfield 446, 3) := dk_180 1 190 (dk_at dksX1_rings_7 5 rfl rfl)
theorem dX1_rings_171 : decode cX1_rings 171 = .ok (.iload 6, 2) := dk_21 6 (dk_at dksX1_rings_7 8 rfl rfl)
theorem dX1_rings_173 : decode cX1_rings 173 = .ok (.iastore, 1) := dk_79 (dk_at dksX1_rings_7 10 rfl rfl)
theorem dX1_rings_174 : decode cX1_rings 174 = .ok (.aload_n 0, 1) := dk_42 (dk_at dksX1_rings_7 11 rfl rfl)
theorem dX1_rings_175 : decode cX1_rings 175 = .ok (.dup, 1) := dk_89 (dk_at dksX1_rings_7 12 rfl rfl)
theorem dX1_rings_176 : decode cX1_rings 176 = .ok (.getfield 446, 3) := dk_180 1 190 (dk_at dksX1_rings_7 13 rfl rfl)
theorem dX1_rings_179 : decode cX1_rings 179 = .ok (.iconst 1, 1) := dk_4 (dk_at dksX1_rings_7 16 rfl rfl)
theorem dX1_rings_180 : decode cX1_rings 180 = .ok (.iadd, 1) := dk_96 (dk_at dksX1_rings_7 17 rfl rfl)
theorem dX1_rings_181 : decode cX1_rings 181 = .ok (.putfield 446, 3) := dk_181 1 190 (dk_at dksX1_rings_7 18 rfl rfl)
theorem dX1_rings_184 : decode cX1_rings 184 = .ok (.iinc 5 1, 3) := dk_132 5 1 (dk_at dksX1_rings_7 21 rfl rfl)
theorem dX1_rings_187 : decode cX1_rings 187 = .ok (.goto (-105), 3) := dk_167 255 151 (dk_at dksX1_rings_8 0 rfl rfl)
theorem dX1_rings_190 : decode cX1_rings 190 = .ok (.iinc 3 1, 3) := dk_132 3 1 (dk_at dksX1_rings_8 3 rfl rfl)
theorem dX1_rings_193 : decode cX1_rings 193 = .ok (.goto (-142), 3) := dk_167 255 114 (dk_at dksX1_rings_8 6 rfl rfl)
theorem dX1_rings_196 : decode cX1_rings 196 = .ok (.iconst (-1), 1) := dk_2 (dk_at dksX1_rings_8 9 rfl rfl)
theorem dX1_rings_197 : decode cX1_rings 197 = .ok (.ireturn, 1) := dk_172 (dk_at dksX1_rings_8 10 rfl rfl)
theorem fl_X1_157 : gFl "BitingDoors" 157 [0] 34 := by
  intro args s hts hN ci hc
  simp only [List.mem_cons, List.not_mem_nil, or_false] at hc
  subst hc
  exact ⟨RX1, TX1, 46, "BitingDoors", gCl_X1, in_X1, by decide, Or.inl (hts _ q535), fun _ h => h⟩
theorem fl_X1_160 : gFl "BitingDoors" 160 [0] 35 := by
  intro args s hts hN ci hc
  simp only [List.mem_cons, List.not_mem_nil, or_false] at hc
  subst hc
  exact ⟨RX1, TX1, 46, "BitingDoors", gCl_X1, in_X1, by decide, Or.inl (hts _ q536), fun _ h => h⟩
theorem fl_X1_163 : gFl "BitingDoors" 163 [0] 36 := by
  intro args s hts hN ci hc
  simp only [List.mem_cons, List.not_mem_nil, or_false] at hc
  subst hc
  exact ⟨RX1, TX1, 46, "BitingDoors", gCl_X1, in_X1, by decide, Or.inl (hts _ q537), fun _ h => h⟩
theorem fl_X1_446 : gFl "BitingDoors" 446 [0] 38 := by
  intro args s hts hN ci hc
  simp only [List.mem_cons, List.not_mem_nil, or_false] at hc
  subst hc
  exact ⟨RX1, TX1, 46, "BitingDoors", gCl_X1, in_X1, by decide, Or.inl (hts _ q539), fun _ h => h⟩
theorem fp_X1_446 {nm : String} : gFp "BitingDoors" nm 446 [0] 38 .int := by
  intro args s hts hN ci hc
  simp only [List.mem_cons, List.not_mem_nil, or_false] at hc
  subst hc
  exact ⟨RX1, TX1, 46, "BitingDoors", gCl_X1, in_X1, by decide, Or.inl ⟨rfl, Or.inl (hts _ q539)⟩, fun _ h => h, rfl, fun D tys hK => gap_X1 hts hK⟩
theorem dn_X1_rings : yX1_rings.cls ≠ "java/lang/invoke/MethodHandle" ∧ yX1_rings.cls ≠ "java/lang/invoke/VarHandle" ∧ (parseMethodDescriptor yX1_rings.desc).map (fun d => d.parameters.length) = some 1 := by decide +kernel
noncomputable def M_X1_rings (t : Nat) (p1 : Int32) : Mo Int32 := Mo.bind (chk [0] t) (fun _ => Mo.bind (Mo.loop (S := Int32) (E := Unit) (fun s1 => if 24300 ≤ s1 then Mo.pure (Sum.inr ()) else Mo.bind (gR [0] t 34) (fun v5 => Mo.bind (astI 0 v5 s1 (-1)) (fun _ => Mo.lv (s1 + 1) (fun v6 => Mo.pure (Sum.inl v6))))) 0) (fun e4 => Mo.bind (gR [0] t 9) (fun v7 => Mo.bind (M_X1_code v7) (fun v8 => Mo.bind (gR [0] t 34) (fun v9 => Mo.bind (astI 0 v9 v8 v8) (fun _ => Mo.bind (gR [0] t 36) (fun v10 => Mo.bind (astI 0 v10 0 v8) (fun _ => Mo.bind (pF [0] t 38 (.int 1)) (fun _ => Mo.loop (S := Int32) (fun s11 => Mo.bind (gI [0] t 38) (fun v14 => if v14 ≤ s11 then Mo.pure (Sum.inr (-1)) else Mo.bind (gR [0] t 36) (fun v15 => Mo.bind (aldI 0 v15 s11) (fun v16 => if (v16 - v16 / 100 * 100) = p1 then Mo.pure (Sum.inr v16) else Mo.bind (Mo.loop (S := Int32) (E := Unit) (fun s17 => Mo.bind (gR [0] t 9) (fun v21 => Mo.bind (gR [2] v21 0) (fun v22 => Mo.bind (gI [3] v22 6) (fun v23 => if (4 + (2 * v23)) ≤ s17 then Mo.pure (Sum.inr ()) else Mo.bind (M_X1_unfold t v16) (fun v24 => Mo.bind (gR [0] t 10) (fun v25 => Mo.bind (M_X3_minute v25 s17) (fun v26 => Mo.bind ((if v26 ≤ 0 then Mo.bind (gR [0] t 10) (fun v29 => Mo.bind (M_X1_code v29) (fun v30 => Mo.bind (gR [0] t 34) (fun v31 => Mo.bind (aldI 0 v31 v30) (fun v32 => if v32 = (-1) then Mo.bind (gR [0] t 34) (fun v33 => Mo.bind (astI 0 v33 v30 v16) (fun _ => Mo.bind (gR [0] t 35) (fun v34 => Mo.bind (astI 0 v34 v30 s17) (fun _ => Mo.bind (gR [0] t 36) (fun v35 => Mo.bind (gI [0] t 38) (fun v36 => Mo.bind (astI 0 v35 v36 v30) (fun _ => Mo.bind (gI [0] t 38) (fun v37 => Mo.bind (pF [0] t 38 (.int (v37 + 1))) (fun _ => Mo.pure ()))))))))) else Mo.pure ())))) else Mo.pure () : Mo (Unit))) (fun u27 => Mo.lv (s17 + 1) (fun v28 => Mo.pure (Sum.inl v28)))))))))) 0) (fun e20 => Mo.lv (s11 + 1) (fun v38 => Mo.pure (Sum.inl v38))))))) 0)))))))))
set_option maxHeartbeats 4000000 in
theorem ct_X1_rings (G : gG) (t : Nat) (p1 : Int32) : gCt G yX1_rings cX1_rings 7 (some .int) 6 137 [.ref t, .int p1] (M_X1_rings t p1) (fun x : Int32 => some (.int x)) := by
  refine gCt.of (by decide) (Nat.le_of_ble_eq_true rfl) (fun K r hG X hd ho => ?_)
  subst hG
  have X : gX K cX1_rings 7 "BitingDoors" "rings" (some .int) 6 137 := X
  have hle : gLe (kh1 K) (kh1 K) := gLe.rf
  show V K 7 (kh0 K) 0 [(0, .ref t), (1, .int p1)] []
  generalize kh0 K = h at hd ⊢
  unfold M_X1_rings at hd
  obtain ⟨-, hd⟩ := chk_some hd
  refine v_iconst (v := 0) X dX1_rings_0 (by decide) ?_
  refine v_istore_n (lv2 := [(2, .int 0), (0, .ref t), (1, .int p1)]) X dX1_rings_1 2 rfl (by decide) rfl ?_
  obtain ⟨e4, h1, hd, hd2⟩ := Mo.bind_some hd
  have KX : V K 7 h1 22 [(0, .ref t), (1, .int p1)] [] := by
    clear hd
    have hd := hd2
    refine v_aload_n X dX1_rings_22 0 0 rfl rfl ?_
    refine v_getR X hd fl_X1_90 dX1_rings_23 (fun v7 hd => ?_)
    refine v_callS X hd hle (ct_X1_code _ v7) (lw_S q1399 q1400 q109 q1401) dn_X1_code rfl ⟨by decide, by decide⟩ rfl (Nat.le_of_ble_eq_true rfl) dX1_rings_26 (fun v8 h hd => ?_)
    show V K 7 h 29 [(0, .ref t), (1, .int p1)] [.int v8]
    refine v_istore_n (lv2 := [(2, .int v8), (0, .ref t), (1, .int p1)]) X dX1_rings_29 2 rfl (by decide) rfl ?_
    refine v_aload_n X dX1_rings_30 1 0 rfl rfl ?_
    refine v_getR X hd fl_X1_157 dX1_rings_31 (fun v9 hd => ?_)
    refine v_iload_n X dX1_rings_34 0 2 rfl rfl ?_
    refine v_iload_n X dX1_rings_35 0 2 rfl rfl ?_
    refine v_iast X hd dX1_rings_36 (fun h hd => ?_)
    refine v_aload_n X dX1_rings_37 1 0 rfl rfl ?_
    refine v_getR X hd fl_X1_163 dX1_rings_38 (fun v10 hd => ?_)
    refine v_iconst (v := 0) X dX1_rings_41 (by decide) ?_
    refine v_iload_n X dX1_rings_42 0 2 rfl rfl ?_
    refine v_iast X hd dX1_rings_43 (fun h hd => ?_)
    refine v_aload_n X dX1_rings_44 1 0 rfl rfl ?_
    refine v_iconst (v := 1) X dX1_rings_45 (by decide) ?_
    refine v_put (v := .int 1) X hd fp_X1_446 rfl rfl dX1_rings_46 (fun h hd => ?_)
    refine v_iconst (v := 0) X dX1_rings_49 (by decide) ?_
    refine v_istore_n (lv2 := [(3, .int 0), (2, .int v8), (0, .ref t), (1, .int p1)]) X dX1_rings_50 3 rfl (by decide) rfl ?_
    refine v_loc [2, 3, 0] rfl ?_
    refine loop_ind hd (fun (s11 : Int32) h => V K 7 h 51 [(0, .ref t), (1, .int p1), (3, .int s11)] []) (fun s11 h x h2 hd hle0 ih12 ho13 => ?_)
    have hle := hle0.tr hle
    refine v_iload_n X dX1_rings_51 2 3 rfl rfl ?_
    refine v_aload_n X dX1_rings_52 0 0 rfl rfl ?_
    refine v_getI X hd fl_X1_446 dX1_rings_53 (fun v14 hd => ?_)
    refine v_icmp_ge (tgt := 196) X dX1_rings_56 (by decide) (fun q => ?_) (fun q => ?_)
    · have hd := ite_t q hd
      refine v_iconst (v := (-1)) X dX1_rings_196 (by decide) ?_
      have hd := lp_out hd ho13
      exact v_iret X hd ho dX1_rings_197
    · have hd := ite_f q hd
      refine v_aload_n X dX1_rings_59 0 0 rfl rfl ?_
      refine v_getR X hd fl_X1_163 dX1_rings_60 (fun v15 hd => ?_)
      refine v_iload_n X dX1_rings_63 2 3 rfl rfl ?_
      refine v_iald X hd dX1_rings_64 (fun v16 hd => ?_)
      refine v_istore (lv2 := [(4, .int v16), (0, .ref t), (1, .int p1), (3, .int s11)]) X dX1_rings_65 (by decide) rfl ?_
      refine v_iload X dX1_rings_67 0 rfl ?_
      refine v_bipush (v := 100) X dX1_rings_69 (by decide) ?_
      refine v_irem X dX1_rings_71 (by decide) ?_
      refine v_iload_n X dX1_rings_72 2 1 rfl rfl ?_
      refine v_icmp_ne (tgt := 79) X dX1_rings_73 (by decide) (fun q => ?_) (fun q => ?_)
      · have hd := ite_f q hd
        refine v_iconst (v := 0) X dX1_rings_79 (by decide) ?_
        refine v_istore (lv2 := [(5, .int 0), (4, .int v16), (0, .ref t), (1, .int p1), (3, .int s11)]) X dX1_rings_80 (by decide) rfl ?_
        obtain ⟨e20, h1, hd, hd2⟩ := Mo.bind_some hd
        have KX : V K 7 h1 190 [(0, .ref t), (1, .int p1), (3, .int s11)] [] := by
          clear hd
          have hd := hd2
          refine v_iincL (lv2 := fun v38 => [(3, .int v38), (0, .ref t), (1, .int p1)]) X hd dX1_rings_190 2 rfl (by decide : Int32.ofInt 1 = 1) (by decide) (fun v38 => rfl) (fun v38 hd => ?_)
          refine v_goto (tgt := 51) X dX1_rings_193 (by decide) ?_
          exact v_loc [1, 2, 0] rfl (lp_in (P := fun (s11 : Int32) h => V K 7 h 51 [(0, .ref t), (1, .int p1), (3, .int s11)] []) hd ih12)
        have hle := (Mo.le hd2).tr hle
        clear hd2
        refine v_loc [2, 3, 4, 1, 0] rfl ?_
        refine loop_ind hd (fun (s17 : Int32) h => V K 7 h 82 [(0, .ref t), (1, .int p1), (3, .int s11), (4, .int v16), (5, .int s17)] []) (fun s17 h x h2 hd hle0 ih18 ho19 => ?_)
        have hle := hle0.tr hle
        refine v_iload X dX1_rings_82 4 rfl ?_
        refine v_iconst (v := 4) X dX1_rings_84 (by decide) ?_
        refine v_iconst (v := 2) X dX1_rings_85 (by decide) ?_
        refine v_aload_n X dX1_rings_86 0 0 rfl rfl ?_
        refine v_getR X hd fl_X1_90 dX1_rings_87 (fun v21 hd => ?_)
        refine v_getR X hd fl_X1_243 dX1_rings_90 (fun v22 hd => ?_)
        refine v_getI X hd fl_X1_247 dX1_rings_93 (fun v23 hd => ?_)
        refine v_imul X dX1_rings_96 ?_
        refine v_iadd X dX1_rings_97 ?_
        refine v_icmp_ge (tgt := 190) X dX1_rings_98 (by decide) (fun q => ?_) (fun q => ?_)
        · have hd := ite_t q hd
          exact v_loc [0, 1, 2] rfl (v_at (P := fun (e20 : Unit) h => V K 7 h 190 [(0, .ref t), (1, .int p1), (3, .int s11)] []) (lp_out hd ho19) KX)
        · have hd := ite_f q hd
          refine v_aload_n X dX1_rings_101 0 0 rfl rfl ?_
          refine v_iload X dX1_rings_102 3 rfl ?_
          refine v_callV X hd hle (ct_X1_unfold _ t v16) gCl_X1 (lw_V q1402 q1404 qs28 q109 q1405) ⟨rfl, dn_X1_unfold⟩ rfl ⟨by decide, by decide⟩ rfl (Nat.le_of_ble_eq_true rfl) dX1_rings_104 (fun v24 h hd => ?_)
          show V K 7 h 107 [(0, .ref t), (1, .int p1), (3, .int s11), (4, .int v16), (5, .int s17)] []
          refine v_aload_n X dX1_rings_107 0 0 rfl rfl ?_
          refine v_getR X hd fl_X1_94 dX1_rings_108 (fun v25 hd => ?_)
          refine v_iload X dX1_rings_111 4 rfl ?_
          refine v_callV X hd hle (ct_X3_minute _ v25 s17) gCl_X3 (lw_V q1297 q1298 q1299 q113 q1300) ⟨rfl, dn_X3_minute⟩ rfl ⟨by decide, by decide⟩ rfl (Nat.le_of_ble_eq_true rfl) dX1_rings_113 (fun v26 h hd => ?_)
          show V K 7 h 116 [(0, .ref t), (1, .int p1), (3, .int s11), (4, .int v16), (5, .int s17)] [.int v26]
          obtain ⟨u27, h1, hd, hd2⟩ := Mo.bind_some hd
          have KJ : V K 7 h1 184 [(0, .ref t), (1, .int p1), (3, .int s11), (4, .int v16), (5, .int s17)] [] := by
            clear hd
            have hd := hd2
            refine v_iincL (lv2 := fun v28 => [(5, .int v28), (0, .ref t), (1, .int p1), (3, .int s11), (4, .int v16)]) X hd dX1_rings_184 4 rfl (by decide : Int32.ofInt 1 = 1) (by decide) (fun v28 => rfl) (fun v28 hd => ?_)
            refine v_goto (tgt := 82) X dX1_rings_187 (by decide) ?_
            exact v_loc [1, 2, 3, 4, 0] rfl (lp_in (P := fun (s17 : Int32) h => V K 7 h 82 [(0, .ref t), (1, .int p1), (3, .int s11), (4, .int v16), (5, .int s17)] []) hd ih18)
          have hle := (Mo.le hd2).tr hle
          clear hd2
          refine v_if_le (tgt := 122) X dX1_rings_116 (by decide) (fun q => ?_) (fun q => ?_)
          · have hd := ite_t q hd
            refine v_aload_n X dX1_rings_122 0 0 rfl rfl ?_
            refine v_getR X hd fl_X1_94 dX1_rings_123 (fun v29 hd => ?_)
            refine v_callS X hd hle (ct_X1_code _ v29) (lw_S q1399 q1400 q109 q1401) dn_X1_code rfl ⟨by decide, by decide⟩ rfl (Nat.le_of_ble_eq_true rfl) dX1_rings_126 (fun v30 h hd => ?_)
            show V K 7 h 129 [(0, .ref t), (1, .int p1), (3, .int s11), (4, .int v16), (5, .int s17)] [.int v30]
            refine v_istore (lv2 := [(6, .int v30), (0, .ref t), (1, .int p1), (3, .int s11), (4, .int v16), (5, .int s17)]) X dX1_rings_129 (by decide) rfl ?_
            refine v_aload_n X dX1_rings_131 1 0 rfl rfl ?_
            refine v_getR X hd fl_X1_157 dX1_rings_132 (fun v31 hd => ?_)
            refine v_iload X dX1_rings_135 0 rfl ?_
            refine v_iald X hd dX1_rings_137 (fun v32 hd => ?_)
            refine v_iconst (v := (-1)) X dX1_rings_138 (by decide) ?_
            refine v_icmp_eq (tgt := 145) X dX1_rings_139 (by decide) (fun q => ?_) (fun q => ?_)
            · have hd := ite_t q hd
              refine v_aload_n X dX1_rings_145 1 0 rfl rfl ?_
              refine v_getR X hd fl_X1_157 dX1_rings_146 (fun v33 hd => ?_)
              refine v_iload X dX1_rings_149 0 rfl ?_
              refine v_iload X dX1_rings_151 4 rfl ?_
              refine v_iast X hd dX1_rings_153 (fun h hd => ?_)
              refine v_aload_n X dX1_rings_154 1 0 rfl rfl ?_
              refine v_getR X hd fl_X1_160 dX1_rings_155 (fun v34 hd => ?_)
              refine v_iload X dX1_rings_158 0 rfl ?_
              refine v_iload X dX1_rings_160 5 rfl ?_
              refine v_iast X hd dX1_rings_162 (fun h hd => ?_)
              refine v_aload_n X dX1_rings_163 1 0 rfl rfl ?_
              refine v_getR X hd fl_X1_163 dX1_rings_164 (fun v35 hd => ?_)
              refine v_aload_n X dX1_rings_167 1 0 rfl rfl ?_
              refine v_getI X hd fl_X1_446 dX1_rings_168 (fun v36 hd => ?_)
              refine v_iload X dX1_rings_171 0 rfl ?_
              refine v_iast X hd dX1_rings_173 (fun h hd => ?_)
              refine v_aload_n X dX1_rings_174 1 0 rfl rfl ?_
              refine v_dup X dX1_rings_175 rfl ?_
              refine v_getI X hd fl_X1_446 dX1_rings_176 (fun v37 hd => ?_)
              refine v_iconst (v := 1) X dX1_rings_179 (by decide) ?_
              refine v_iadd X dX1_rings_180 ?_
              refine v_put (v := .int (v37 + 1)) X hd fp_X1_446 rfl rfl dX1_rings_181 (fun h hd => ?_)
              exact v_loc [1, 2, 3, 4, 5] rfl (v_at (P := fun (u27 : Unit) h => V K 7 h 184 [(0, .ref t), (1, .int p1), (3, .int s11), (4, .int v16), (5, .int s17)] []) hd KJ)
            · have hd := ite_f q hd
              refine v_goto (tgt := 184) X dX1_rings_142 (by decide) ?_
              exact v_loc [1, 2, 3, 4, 5] rfl (v_at (P := fun (u27 : Unit) h => V K 7 h 184 [(0, .ref t), (1, .int p1), (3, .int s11), (4, .int v16), (5, .int s17)] []) hd KJ)
          · have hd := ite_f q hd
            refine v_goto (tgt := 184) X dX1_rings_119 (by decide) ?_
            exact v_loc [0, 1, 2, 3, 4] rfl (v_at (P := fun (u27 : Unit) h => V K 7 h 184 [(0, .ref t), (1, .int p1), (3, .int s11), (4, .int v16), (5, .int s17)] []) hd KJ)
      · have hd := ite_t q hd
        refine v_iload X dX1_rings_76 0 rfl ?_
        have hd := lp_out hd ho13
        exact v_iret X hd ho dX1_rings_78
  have hle := (Mo.le hd2).tr hle
  clear hd2
  refine v_loc [1, 2, 0] rfl ?_
  refine loop_ind hd (fun (s1 : Int32) h => V K 7 h 2 [(0, .ref t), (1, .int p1), (2, .int s1)] []) (fun s1 h x h2 hd hle0 ih2 ho3 => ?_)
  have hle := hle0.tr hle
  refine v_iload_n X dX1_rings_2 2 2 rfl rfl ?_
  refine v_sipush (v := 24300) X dX1_rings_3 (by decide) ?_
  refine v_icmp_ge (tgt := 22) X dX1_rings_6 (by decide) (fun q => ?_) (fun q => ?_)
  · have hd := ite_t q hd
    exact v_loc [0, 1] rfl (v_at (P := fun (e4 : Unit) h => V K 7 h 22 [(0, .ref t), (1, .int p1)] []) (lp_out hd ho3) KX)
  · have hd := ite_f q hd
    refine v_aload_n X dX1_rings_9 0 0 rfl rfl ?_
    refine v_getR X hd fl_X1_157 dX1_rings_10 (fun v5 hd => ?_)
    refine v_iload_n X dX1_rings_13 2 2 rfl rfl ?_
    refine v_iconst (v := (-1)) X dX1_rings_14 (by decide) ?_
    refine v_iast X hd dX1_rings_15 (fun h hd => ?_)
    refine v_iincL (lv2 := fun v6 => [(2, .int v6), (0, .ref t), (1, .int p1)]) X hd dX1_rings_16 2 rfl (by decide : Int32.ofInt 1 = 1) (by decide) (fun v6 => rfl) (fun v6 hd => ?_)
    refine v_goto (tgt := 2) X dX1_rings_19 (by decide) ?_
    exact v_loc [1, 2, 0] rfl (lp_in (P := fun (s1 : Int32) h => V K 7 h 2 [(0, .ref t), (1, .int p1), (2, .int s1)] []) hd ih2)
def dkwX1_spread_5 : List UInt8 := [104, 21, 4, 96, 182, 1, 208, 96, 61, 132, 3, 1, 167, 255, 136, 28, 172]
abbrev dktX1_spread_5 : List UInt8 := dkwX1_spread_5 ++ []
def dkwX1_spread_4 : List UInt8 := [180, 0, 90, 16, 10, 21, 5, 104, 21, 4, 96, 2, 182, 1, 159, 154, 0, 18, 28, 42, 16, 10, 21, 5]
abbrev dktX1_spread_4 : List UInt8 := dkwX1_spread_4 ++ dktX1_spread_5
def dkwX1_spread_3 : List UInt8 := [96, 182, 1, 156, 153, 0, 53, 42, 180, 0, 169, 16, 10, 21, 5, 104, 21, 4, 96, 51, 154, 0, 37, 42]
abbrev dktX1_spread_3 : List UInt8 := dkwX1_spread_3 ++ dktX1_spread_4
def dkwX1_spread_2 : List UInt8 := [21, 4, 21, 5, 182, 1, 0, 153, 0, 74, 42, 180, 0, 90, 180, 0, 243, 16, 10, 21, 5, 104, 21, 4]
abbrev dktX1_spread_2 : List UInt8 := dkwX1_spread_2 ++ dktX1_spread_3
def dkwX1_spread_1 : List UInt8 := [46, 96, 54, 4, 27, 16, 10, 108, 178, 1, 205, 29, 46, 96, 54, 5, 42, 180, 0, 90, 180, 0, 243]
abbrev dktX1_spread_1 : List UInt8 := dkwX1_spread_1 ++ dktX1_spread_2
def dkwX1_spread_0 : List UInt8 := [42, 180, 0, 169, 27, 4, 84, 4, 61, 3, 62, 29, 7, 162, 0, 121, 27, 16, 10, 112, 178, 1, 202, 29]
abbrev dktX1_spread_0 : List UInt8 := dkwX1_spread_0 ++ dktX1_spread_1
theorem dksX1_spread_0 : cX1_spread.data.toList.drop 0 = dktX1_spread_0 := by decide +kernel
theorem dksX1_spread_1 : cX1_spread.data.toList.drop 24 = dktX1_spread_1 := dk_seg dksX1_spread_0 24 rfl rfl
theorem dksX1_spread_2 : cX1_spread.data.toList.drop 47 = dktX1_spread_2 := dk_seg dksX1_spread_1 23 rfl rfl
theorem dksX1_spread_3 : cX1_spread.data.toList.drop 71 = dktX1_spread_3 := dk_seg dksX1_spread_2 24 rfl rfl
theorem dksX1_spread_4 : cX1_spread.data.toList.drop 95 = dktX1_spread_4 := dk_seg dksX1_spread_3 24 rfl rfl
theorem dksX1_spread_5 : cX1_spread.data.toList.drop 119 = dktX1_spread_5 := dk_seg dksX1_spread_4 24 rfl rfl
theorem dX1_spread_0 : decode cX1_spread 0 = .ok (.aload_n 0, 1) := dk_42 (dk_at dksX1_spread_0 0 rfl rfl)
theorem dX1_spread_1 : decode cX1_spread 1 = .ok (.getfield 169, 3) := dk_180 0 169 (dk_at dksX1_spread_0 1 rfl rfl)
theorem dX1_spread_4 : decode cX1_spread 4 = .ok (.iload_n 1, 1) := dk_27 (dk_at dksX1_spread_0 4 rfl rfl)
theorem dX1_spread_5 : decode cX1_spread 5 = .ok (.iconst 1, 1) := dk_4 (dk_at dksX1_spread_0 5 rfl rfl)
theorem dX1_spread_6 : decode cX1_spread 6 = .ok (.bastore, 1) := dk_84 (dk_at dksX1_spread_0 6 rfl rfl)
theorem dX1_spread_7 : decode cX1_spread 7 = .ok (.iconst 1, 1) := dk_4 (dk_at dksX1_spread_0 7 rfl rfl)
theorem dX1_spread_8 : decode cX1_spread 8 = .ok (.istore_n 2, 1) := dk_61 (dk_at dksX1_spread_0 8 rfl rfl)
theorem dX1_spread_9 : decode cX1_spread 9 = .ok (.iconst 0, 1) := dk_3 (dk_at dksX1_spread_0 9 rfl rfl)
theorem dX1_spread_10 : decode cX1_spread 10 = .ok (.istore_n 3, 1) := dk_62 (dk_at dksX1_spread_0 10 rfl rfl)
theorem dX1_spread_11 : decode cX1_spread 11 = .ok (.iload_n 3, 1) := dk_29 (dk_at dksX1_spread_0 11 rfl rfl)
theorem dX1_spread_12 : decode cX1_spread 12 = .ok (.iconst 4, 1) := dk_7 (dk_at dksX1_spread_0 12 rfl rfl)
theorem dX1_spread_13 : decode cX1_spread 13 = .ok (.if_icmp .ge 121, 3) := dk_162 0 121 (dk_at dksX1_spread_0 13 rfl rfl)
theorem dX1_spread_16 : decode cX1_spread 16 = .ok (.iload_n 1, 1) := dk_27 (dk_at dksX1_spread_0 16 rfl rfl)
theorem dX1_spread_17 : decode cX1_spread 17 = .ok (.bipush 10, 2) := dk_16 10 (dk_at dksX1_spread_0 17 rfl rfl)
theorem dX1_spread_19 : decode cX1_spread 19 = .ok (.irem, 1) := dk_112 (dk_at dksX1_spread_0 19 rfl rfl)
theorem dX1_spread_20 : decode cX1_spread 20 = .ok (.getstatic 458, 3) := dk_178 1 202 (dk_at dksX1_spread_0 20 rfl rfl)
theorem dX1_spread_23 : decode cX1_spread 23 = .ok (.iload_n 3, 1) := dk_29 (dk_at dksX1_spread_0 23 rfl rfl)
theorem dX1_spread_24 : decode cX1_spread 24 = .ok (.iaload, 1) := dk_46 (dk_at dksX1_spread_1 0 rfl rfl)
theorem dX1_spread_25 : decode cX1_spread 25 = .ok (.iadd, 1) := dk_96 (dk_at dksX1_spread_1 1 rfl rfl)
theorem dX1_spread_26 : decode cX1_spread 26 = .ok (.istore 4, 2) := dk_54 4 (dk_at dksX1_spread_1 2 rfl rfl)
theorem dX1_spread_28 : decode cX1_spread 28 = .ok (.iload_n 1, 1) := dk_27 (dk_at dksX1_spread_1 4 rfl rfl)
theorem dX1_spread_29 : decode cX1_spread 29 = .ok (.bipush 10, 2) := dk_16 10 (dk_at dksX1_spread_1 5 rfl rfl)
theorem dX1_spread_31 : decode cX1_spread 31 = .ok (.idiv, 1) := dk_108 (dk_at dksX1_spread_1 7 rfl rfl)
theorem dX1_spread_32 : decode cX1_spread 32 = .ok (.getstatic 461, 3) := dk_178 1 205 (dk_at dksX1_spread_1 8 rfl rfl)
theorem dX1_spread_35 : decode cX1_spread 35 = .ok (.iload_n 3, 1) := dk_29 (dk_at dksX1_spread_1 11 rfl rfl)
theorem dX1_spread_36 : decode cX1_spread 36 = .ok (.iaload, 1) := dk_46 (dk_at dksX1_spread_1 12 rfl rfl)
theorem dX1_spread_37 : decode cX1_spread 37 = .ok (.iadd, 1) := dk_96 (dk_at dksX1_spread_1 13 rfl rfl)
theorem dX1_spread_38 : decode cX1_spread 38 = .ok (.istore 5, 2) := dk_54 5 (dk_at dksX1_spread_1 14 rfl rfl)
theorem dX1_spread_40 : decode cX1_spread 40 = .ok (.aload_n 0, 1) := dk_42 (dk_at dksX1_spread_1 16 rfl rfl)
theorem dX1_spread_41 : decode cX1_spread 41 = .ok (.getfield 90, 3) := dk_180 0 90 (dk_at dksX1_spread_1 17 rfl rfl)
theorem dX1_spread_44 : decode cX1_spread 44 = .ok (.getfield 243, 3) := dk_180 0 243 (dk_at dksX1_spread_1 20 rfl rfl)
theorem dX1_spread_47 : decode cX1_spread 47 = .ok (.iload 4, 2) := dk_21 4 (dk_at dksX1_spread_2 0 rfl rfl)
theorem dX1_spread_49 : decode cX1_spread 49 = .ok (.iload 5, 2) := dk_21 5 (dk_at dksX1_spread_2 2 rfl rfl)
theorem dX1_spread_51 : decode cX1_spread 51 = .ok (.invokevirtual 256, 3) := dk_182 1 0 (dk_at dksX1_spread_2 4 rfl rfl)
theorem dX1_spread_54 : decode cX1_spread 54 = .ok (.ifCond .eq 74, 3) := dk_153 0 74 (dk_at dksX1_spread_2 7 rfl rfl)
theorem dX1_spread_57 : decode cX1_spread 57 = .ok (.aload_n 0, 1) := dk_42 (dk_at dksX1_spread_2 10 rfl rfl)
theorem dX1_spread_58 : decode cX1_spread 58 = .ok (.getfield 90, 3) := dk_180 0 90 (dk_at dksX1_spread_2 11 rfl rfl)
theorem dX1_spread_61 : decode cX1_spread 61 = .ok (.getfield 243, 3) := dk_180 0 243 (dk_at dksX1_spread_2 14 rfl rfl)
theorem dX1_spread_64 : decode cX1_spread 64 = .ok (.bipush 10, 2) := dk_16 10 (dk_at dksX1_spread_2 17 rfl rfl)
theorem dX1_spread_66 : decode cX1_spread 66 = .ok (.iload 5, 2) := dk_21 5 (dk_at dksX1_spread_2 19 rfl rfl)
theorem dX1_spread_68 : decode cX1_spread 68 = .ok (.imul, 1) := dk_104 (dk_at dksX1_spread_2 21 rfl rfl)
theorem dX1_spread_69 : decode cX1_spread 69 = .ok (.iload 4, 2) := dk_21 4 (dk_at dksX1_spread_2 22 rfl rfl)
theorem dX1_spread_71 : decode cX1_spread 71 = .ok (.iadd, 1) := dk_96 (dk_at dksX1_spread_3 0 rfl rfl)
theorem dX1_spread_72 : decode cX1_spread 72 = .ok (.invokevirtual 412, 3) := dk_182 1 156 (dk_at dksX1_spread_3 1 rfl rfl)
theorem dX1_spread_75 : decode cX1_spread 75 = .ok (.ifCond .eq 53, 3) := dk_153 0 53 (dk_at dksX1_spread_3 4 rfl rfl)
theorem dX1_spread_78 : decode cX1_spread 78 = .ok (.aload_n 0, 1) := dk_42 (dk_at dksX1_spread_3 7 rfl rfl)
theorem dX1_spread_79 : decode cX1_spread 79 = .ok (.getfield 169, 3) := dk_180 0 169 (dk_at dksX1_spread_3 8 rfl rfl)
theorem dX1_spread_82 : decode cX1_spread 82 = .ok (.bipush 10, 2) := dk_16 10 (dk_at dksX1_spread_3 11 rfl rfl)
theorem dX1_spread_84 : decode cX1_spread 84 = .ok (.iload 5, 2) := dk_21 5 (dk_at dksX1_spread_3 13 rfl rfl)
theorem dX1_spread_86 : decode cX1_spread 86 = .ok (.imul, 1) := dk_104 (dk_at dksX1_spread_3 15 rfl rfl)
theorem dX1_spread_87 : decode cX1_spread 87 = .ok (.iload 4, 2) := dk_21 4 (dk_at dksX1_spread_3 16 rfl rfl)
theorem dX1_spread_89 : decode cX1_spread 89 = .ok (.iadd, 1) := dk_96 (dk_at dksX1_spread_3 18 rfl rfl)
theorem dX1_spread_90 : decode cX1_spread 90 = .ok (.baload, 1) := dk_51 (dk_at dksX1_spread_3 19 rfl rfl)
theorem dX1_spread_91 : decode cX1_spread 91 = .ok (.ifCond .ne 37, 3) := dk_154 0 37 (dk_at dksX1_spread_3 20 rfl rfl)
theorem dX1_spread_94 : decode cX1_spread 94 = .ok (.aload_n 0, 1) := dk_42 (dk_at dksX1_spread_3 23 rfl rfl)
theorem dX1_spread_95 : decode cX1_spread 95 = .ok (.getfield 90, 3) := dk_180 0 90 (dk_at dksX1_spread_4 0 rfl rfl)
theorem dX1_spread_98 : decode cX1_spread 98 = .ok (.bipush 10, 2) := dk_16 10 (dk_at dksX1_spread_4 3 rfl rfl)
theorem dX1_spread_100 : decode cX1_spread 100 = .ok (.iload 5, 2) := dk_21 5 (dk_at dksX1_spread_4 5 rfl rfl)
theorem dX1_spread_102 : decode cX1_spread 102 = .ok (.imul, 1) := dk_104 (dk_at dksX1_spread_4 7 rfl rfl)
theorem dX1_spread_103 : decode cX1_spread 103 = .ok (.iload 4, 2) := dk_21 4 (dk_at dksX1_spread_4 8 rfl rfl)
theorem dX1_spread_105 : decode cX1_spread 105 = .ok (.iadd, 1) := dk_96 (dk_at dksX1_spread_4 10 rfl rfl)
theorem dX1_spread_106 : decode cX1_spread 106 = .ok (.iconst (-1), 1) := dk_2 (dk_at dksX1_spread_4 11 rfl rfl)
theorem dX1_spread_107 : decode cX1_spread 107 = .ok (.invokevirtual 415, 3) := dk_182 1 159 (dk_at dksX1_spread_4 12 rfl rfl)
theorem dX1_spread_110 : decode cX1_spread 110 = .ok (.ifCond .ne 18, 3) := dk_154 0 18 (dk_at dksX1_spread_4 15 rfl rfl)
theorem dX1_spread_113 : decode cX1_spread 113 = .ok (.iload_n 2, 1) := dk_28 (dk_at dksX1_spread_4 18 rfl rfl)
theorem dX1_spread_114 : decode cX1_spread 114 = .ok (.aload_n 0, 1) := dk_42 (dk_at dksX1_spread_4 19 rfl rfl)
theorem dX1_spread_115 : decode cX1_spread 115 = .ok (.bipush 10, 2) := dk_16 10 (dk_at dksX1_spread_4 20 rfl rfl)
theorem dX1_spread_117 : decode cX1_spread 117 = .ok (.iload 5, 2) := dk_21 5 (dk_at dksX1_spread_4 22 rfl rfl)
theorem dX1_spread_119 : decode cX1_spread 119 = .ok (.imul, 1) := dk_104 (dk_at dksX1_spread_5 0 rfl rfl)
theorem dX1_spread_120 : decode cX1_spread 120 = .ok (.iload 4, 2) := dk_21 4 (dk_at dksX1_spread_5 1 rfl rfl)
theorem dX1_spread_122 : decode cX1_spread 122 = .ok (.iadd, 1) := dk_96 (dk_at dksX1_spread_5 3 rfl rfl)
theorem dX1_spread_123 : decode cX1_spread 123 = .ok (.invokevirtual 464, 3) := dk_182 1 208 (dk_at dksX1_spread_5 4 rfl rfl)
theorem dX1_spread_126 : decode cX1_spread 126 = .ok (.iadd, 1) := dk_96 (dk_at dksX1_spread_5 7 rfl rfl)
theorem dX1_spread_127 : decode cX1_spread 127 = .ok (.istore_n 2, 1) := dk_61 (dk_at dksX1_spread_5 8 rfl rfl)
theorem dX1_spread_128 : decode cX1_spread 128 = .ok (.iinc 3 1, 3) := dk_132 3 1 (dk_at dksX1_spread_5 9 rfl rfl)
theorem dX1_spread_131 : decode cX1_spread 131 = .ok (.goto (-120), 3) := dk_167 255 136 (dk_at dksX1_spread_5 12 rfl rfl)
theorem dX1_spread_134 : decode cX1_spread 134 = .ok (.iload_n 2, 1) := dk_28 (dk_at dksX1_spread_5 15 rfl rfl)
theorem dX1_spread_135 : decode cX1_spread 135 = .ok (.ireturn, 1) := dk_172 (dk_at dksX1_spread_5 16 rfl rfl)
theorem fl_X1_169 : gFl "BitingDoors" 169 [0] 40 := by
  intro args s hts hN ci hc
  simp only [List.mem_cons, List.not_mem_nil, or_false] at hc
  subst hc
  exact ⟨RX1, TX1, 46, "BitingDoors", gCl_X1, in_X1, by decide, Or.inl (hts _ q541), fun _ h => h⟩
theorem dn_X1_spread : yX1_spread.cls ≠ "java/lang/invoke/MethodHandle" ∧ yX1_spread.cls ≠ "java/lang/invoke/VarHandle" ∧ (parseMethodDescriptor yX1_spread.desc).map (fun d => d.parameters.length) = some 1 := by decide +kernel
noncomputable def B_X1_spread (Rc : Nat → Int32 → Mo Int32) (t : Nat) (p1 : Int32) : Mo Int32 := Mo.bind (gR [0] t 40) (fun v1 => Mo.bind (astI 3 v1 p1 1) (fun _ => Mo.bind (Mo.loop (S := Int32 × Int32) (E := Int32) (fun s2 => if 4 ≤ s2.2 then Mo.pure (Sum.inr s2.1) else Mo.bind (stepA 0 s2.2) (fun v6 => Mo.lv ((p1 - p1 / 10 * 10) + v6) (fun v7 => Mo.bind (stepA 1 s2.2) (fun v8 => Mo.lv ((p1 / 10) + v8) (fun v9 => Mo.bind (gR [0] t 9) (fun v10 => Mo.bind (gR [2] v10 0) (fun v11 => Mo.bind (M_X4_isCell v11 v7 v9) (fun v12 => Mo.bind ((cond v12 (Mo.bind (gR [0] t 9) (fun v15 => Mo.bind (gR [2] v15 0) (fun v16 => Mo.bind (M_X4_isOpen v16 ((10 * v9) + v7)) (fun v17 => cond v17 (Mo.bind (gR [0] t 40) (fun v18 => Mo.bind (aldI 3 v18 ((10 * v9) + v7)) (fun v19 => if v19 = 0 then Mo.bind (gR [0] t 9) (fun v20 => Mo.bind (M_X3_isLeaf v20 ((10 * v9) + v7) (-1)) (fun v21 => cond v21 (Mo.pure s2.1) (Mo.bind (Rc t ((10 * v9) + v7)) (fun v22 => Mo.lv (s2.1 + v22) (fun v23 => Mo.pure v23))))) else Mo.pure s2.1))) (Mo.pure s2.1))))) (Mo.pure s2.1) : Mo (Int32))) (fun u13 => Mo.lv (s2.2 + 1) (fun v14 => Mo.pure (Sum.inl (u13, v14)))))))))))) (1, 0)) (fun e5 => Mo.pure e5)))
noncomputable def N_X1_spread : Nat → Nat → Int32 → Mo Int32
  | 0 => fun _ _ => Mo.fail
  | n + 1 => B_X1_spread (fun t p1 => Mo.bind (chk [0] t) (fun _ => N_X1_spread n t p1))
noncomputable def M_X1_spread (n : Nat) (t : Nat) (p1 : Int32) : Mo Int32 := Mo.bind (chk [0] t) (fun _ => N_X1_spread n t p1)
set_option maxHeartbeats 4000000 in
theorem ct_X1_spread (G : gG) (n : Nat) : ∀ (t : Nat) (p1 : Int32), gCt G yX1_spread cX1_spread 6 (some .int) (3 + n) (66 + n * 25) [.ref t, .int p1] (M_X1_spread n t p1) (fun x : Int32 => some (.int x)) := by
  induction n with
  | zero =>
    intro t p1 l hfl h r h2 hf
    obtain ⟨-, hf⟩ := chk_some hf
    cases hf
  | succ n ih =>
    intro t p1
    refine gCt.of (by decide) (Nat.le_of_ble_eq_true rfl) (fun K r hG X hd ho => ?_)
    subst hG
    have X : gX K cX1_spread 6 "BitingDoors" "spread" (some .int) (3 + (n + 1)) (66 + (n + 1) * 25) := X
    have hle : gLe (kh1 K) (kh1 K) := gLe.rf
    show V K 6 (kh0 K) 0 [(0, .ref t), (1, .int p1)] []
    generalize kh0 K = h at hd ⊢
    obtain ⟨-, hd⟩ := chk_some hd
    have hd : (B_X1_spread (M_X1_spread n) t p1).1 h = some (r, kh1 K) := hd
    unfold B_X1_spread at hd
    refine v_aload_n X dX1_spread_0 0 0 rfl rfl ?_
    refine v_getR X hd fl_X1_169 dX1_spread_1 (fun v1 hd => ?_)
    refine v_iload_n X dX1_spread_4 1 1 rfl rfl ?_
    refine v_iconst (v := 1) X dX1_spread_5 (by decide) ?_
    refine v_zast X hd rfl dX1_spread_6 (fun h hd => ?_)
    refine v_iconst (v := 1) X dX1_spread_7 (by decide) ?_
    refine v_istore_n (lv2 := [(2, .int 1), (0, .ref t), (1, .int p1)]) X dX1_spread_8 2 rfl (by decide) rfl ?_
    refine v_iconst (v := 0) X dX1_spread_9 (by decide) ?_
    refine v_istore_n (lv2 := [(3, .int 0), (2, .int 1), (0, .ref t), (1, .int p1)]) X dX1_spread_10 3 rfl (by decide) rfl ?_
    obtain ⟨e5, h1, hd, hd2⟩ := Mo.bind_some hd
    have KX : V K 6 h1 134 [(2, .int e5)] [] := by
      clear hd
      have hd := hd2
      refine v_iload_n X dX1_spread_134 0 2 rfl rfl ?_
      exact v_iret X hd ho dX1_spread_135
    have hle := (Mo.le hd2).tr hle
    clear hd2
    refine v_loc [2, 3, 1, 0] rfl ?_
    refine loop_ind hd (fun (s2 : Int32 × Int32) h => V K 6 h 11 [(0, .ref t), (1, .int p1), (2, .int s2.1), (3, .int s2.2)] []) (fun s2 h x h2 hd hle0 ih3 ho4 => ?_)
    have hle := hle0.tr hle
    refine v_iload_n X dX1_spread_11 3 3 rfl rfl ?_
    refine v_iconst (v := 4) X dX1_spread_12 (by decide) ?_
    refine v_icmp_ge (tgt := 134) X dX1_spread_13 (by decide) (fun q => ?_) (fun q => ?_)
    · have hd := ite_t q hd
      exact v_loc [2] rfl (v_at (P := fun (e5 : Int32) h => V K 6 h 134 [(2, .int e5)] []) (lp_out hd ho4) KX)
    · have hd := ite_f q hd
      refine v_iload_n X dX1_spread_16 1 1 rfl rfl ?_
      refine v_bipush (v := 10) X dX1_spread_17 (by decide) ?_
      refine v_irem X dX1_spread_19 (by decide) ?_
      refine v_gets0 X q1422 rfl dX1_spread_20 ?_
      refine v_iload_n X dX1_spread_23 3 3 rfl rfl ?_
      refine v_stepld0 X hd dX1_spread_24 (fun v6 hd => ?_)
      refine v_iadd X dX1_spread_25 ?_
      refine v_lvI hd (fun v7 hd => ?_)
      refine v_istore (lv2 := [(4, .int v7), (0, .ref t), (1, .int p1), (2, .int s2.1), (3, .int s2.2)]) X dX1_spread_26 (by decide) rfl ?_
      refine v_iload_n X dX1_spread_28 2 1 rfl rfl ?_
      refine v_bipush (v := 10) X dX1_spread_29 (by decide) ?_
      refine v_idiv X dX1_spread_31 (by decide) ?_
      refine v_gets1 X q1423 rfl dX1_spread_32 ?_
      refine v_iload_n X dX1_spread_35 4 3 rfl rfl ?_
      refine v_stepld1 X hd dX1_spread_36 (fun v8 hd => ?_)
      refine v_iadd X dX1_spread_37 ?_
      refine v_lvI hd (fun v9 hd => ?_)
      refine v_istore (lv2 := [(5, .int v9), (4, .int v7), (0, .ref t), (1, .int p1), (2, .int s2.1), (3, .int s2.2)]) X dX1_spread_38 (by decide) rfl ?_
      refine v_aload_n X dX1_spread_40 2 0 rfl rfl ?_
      refine v_getR X hd fl_X1_90 dX1_spread_41 (fun v10 hd => ?_)
      refine v_getR X hd fl_X1_243 dX1_spread_44 (fun v11 hd => ?_)
      refine v_iload X dX1_spread_47 1 rfl ?_
      refine v_iload X dX1_spread_49 0 rfl ?_
      refine v_callV X hd hle (ct_X4_isCell _ v11 v7 v9) gCl_X4 (lw_V q1110 q827 q828 q114 q829) ⟨rfl, dn_X4_isCell⟩ rfl ⟨by omega, by omega⟩ rfl (Nat.le_of_ble_eq_true rfl) dX1_spread_51 (fun v12 h hd => ?_)
      show V K 6 h 54 [(5, .int v9), (4, .int v7), (0, .ref t), (1, .int p1), (2, .int s2.1), (3, .int s2.2)] [.int (b2i v12)]
      obtain ⟨u13, h1, hd, hd2⟩ := Mo.bind_some hd
      have KJ : V K 6 h1 128 [(0, .ref t), (1, .int p1), (2, .int u13), (3, .int s2.2)] [] := by
        clear hd
        have hd := hd2
        refine v_iincL (lv2 := fun v14 => [(3, .int v14), (0, .ref t), (1, .int p1), (2, .int u13)]) X hd dX1_spread_128 3 rfl (by decide : Int32.ofInt 1 = 1) (by decide) (fun v14 => rfl) (fun v14 hd => ?_)
        refine v_goto (tgt := 11) X dX1_spread_131 (by decide) ?_
        exact v_loc [1, 2, 3, 0] rfl (lp_in (P := fun (s2 : Int32 × Int32) h => V K 6 h 11 [(0, .ref t), (1, .int p1), (2, .int s2.1), (3, .int s2.2)] []) hd ih3)
      have hle := (Mo.le hd2).tr hle
      clear hd2
      refine v_ifZ_eq (tgt := 128) X dX1_spread_54 (by decide) (fun q => ?_) (fun q => ?_)
      · have hd := cnd_f q hd
        exact v_loc [2, 3, 4, 5] rfl (v_at (P := fun (u13 : Int32) h => V K 6 h 128 [(0, .ref t), (1, .int p1), (2, .int u13), (3, .int s2.2)] []) hd KJ)
      · have hd := cnd_t q hd
        refine v_aload_n X dX1_spread_57 2 0 rfl rfl ?_
        refine v_getR X hd fl_X1_90 dX1_spread_58 (fun v15 hd => ?_)
        refine v_getR X hd fl_X1_243 dX1_spread_61 (fun v16 hd => ?_)
        refine v_bipush (v := 10) X dX1_spread_64 (by decide) ?_
        refine v_iload X dX1_spread_66 0 rfl ?_
        refine v_imul X dX1_spread_68 ?_
        refine v_iload X dX1_spread_69 1 rfl ?_
        refine v_iadd X dX1_spread_71 ?_
        refine v_callV X hd hle (ct_X4_isOpen _ v16 ((10 * v9) + v7)) gCl_X4 (lw_V q1275 q1276 q1277 q114 q1278) ⟨rfl, dn_X4_isOpen⟩ rfl ⟨by omega, by omega⟩ rfl (Nat.le_of_ble_eq_true rfl) dX1_spread_72 (fun v17 h hd => ?_)
        show V K 6 h 75 [(5, .int v9), (4, .int v7), (0, .ref t), (1, .int p1), (2, .int s2.1), (3, .int s2.2)] [.int (b2i v17)]
        refine v_ifZ_eq (tgt := 128) X dX1_spread_75 (by decide) (fun q => ?_) (fun q => ?_)
        · have hd := cnd_f q hd
          exact v_loc [2, 3, 4, 5] rfl (v_at (P := fun (u13 : Int32) h => V K 6 h 128 [(0, .ref t), (1, .int p1), (2, .int u13), (3, .int s2.2)] []) hd KJ)
        · have hd := cnd_t q hd
          refine v_aload_n X dX1_spread_78 2 0 rfl rfl ?_
          refine v_getR X hd fl_X1_169 dX1_spread_79 (fun v18 hd => ?_)
          refine v_bipush (v := 10) X dX1_spread_82 (by decide) ?_
          refine v_iload X dX1_spread_84 0 rfl ?_
          refine v_imul X dX1_spread_86 ?_
          refine v_iload X dX1_spread_87 1 rfl ?_
          refine v_iadd X dX1_spread_89 ?_
          refine v_zald X hd dX1_spread_90 (fun v19 hd => ?_)
          refine v_if_ne (tgt := 128) X dX1_spread_91 (by decide) (fun q => ?_) (fun q => ?_)
          · have hd := ite_f q hd
            exact v_loc [2, 3, 4, 5] rfl (v_at (P := fun (u13 : Int32) h => V K 6 h 128 [(0, .ref t), (1, .int p1), (2, .int u13), (3, .int s2.2)] []) hd KJ)
          · have hd := ite_t q hd
            refine v_aload_n X dX1_spread_94 2 0 rfl rfl ?_
            refine v_getR X hd fl_X1_90 dX1_spread_95 (fun v20 hd => ?_)
            refine v_bipush (v := 10) X dX1_spread_98 (by decide) ?_
            refine v_iload X dX1_spread_100 0 rfl ?_
            refine v_imul X dX1_spread_102 ?_
            refine v_iload X dX1_spread_103 1 rfl ?_
            refine v_iadd X dX1_spread_105 ?_
            refine v_iconst (v := (-1)) X dX1_spread_106 (by decide) ?_
            refine v_callV X hd hle (ct_X3_isLeaf _ v20 ((10 * v9) + v7) (-1)) gCl_X3 (lw_V q1279 q1280 q1281 q113 q1282) ⟨rfl, dn_X3_isLeaf⟩ rfl ⟨by omega, by omega⟩ rfl (Nat.le_of_ble_eq_true rfl) dX1_spread_107 (fun v21 h hd => ?_)
            show V K 6 h 110 [(5, .int v9), (4, .int v7), (0, .ref t), (1, .int p1), (2, .int s2.1), (3, .int s2.2)] [.int (b2i v21)]
            refine v_ifZ_ne (tgt := 128) X dX1_spread_110 (by decide) (fun q => ?_) (fun q => ?_)
            · have hd := cnd_t q hd
              exact v_loc [2, 3, 4, 5] rfl (v_at (P := fun (u13 : Int32) h => V K 6 h 128 [(0, .ref t), (1, .int p1), (2, .int u13), (3, .int s2.2)] []) hd KJ)
            · have hd := cnd_f q hd
              refine v_iload_n X dX1_spread_113 4 2 rfl rfl ?_
              refine v_aload_n X dX1_spread_114 2 0 rfl rfl ?_
              refine v_bipush (v := 10) X dX1_spread_115 (by decide) ?_
              refine v_iload X dX1_spread_117 0 rfl ?_
              refine v_imul X dX1_spread_119 ?_
              refine v_iload X dX1_spread_120 1 rfl ?_
              refine v_iadd X dX1_spread_122 ?_
              refine v_callV X hd hle (ih t ((10 * v9) + v7)) gCl_X1 (lw_V q1418 q1420 qs29 q109 q1421) ⟨rfl, dn_X1_spread⟩ rfl ⟨by omega, by omega⟩ rfl (Nat.le_of_ble_eq_true rfl) dX1_spread_123 (fun v22 h hd => ?_)
              show V K 6 h 126 [(5, .int v9), (4, .int v7), (0, .ref t), (1, .int p1), (2, .int s2.1), (3, .int s2.2)] [.int v22, .int s2.1]
              refine v_iadd X dX1_spread_126 ?_
              refine v_lvI hd (fun v23 hd => ?_)
              refine v_istore_n (lv2 := [(2, .int v23), (5, .int v9), (4, .int v7), (0, .ref t), (1, .int p1), (3, .int s2.2)]) X dX1_spread_127 2 rfl (by decide) rfl ?_
              exact v_loc [3, 4, 0, 5] rfl (v_at (P := fun (u13 : Int32) h => V K 6 h 128 [(0, .ref t), (1, .int p1), (2, .int u13), (3, .int s2.2)] []) hd KJ)
