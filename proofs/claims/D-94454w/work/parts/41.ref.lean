set_option maxRecDepth 100000
def dkwX10_house_7 : List UInt8 := [181, 0, 255, 27, 172]
abbrev dktX10_house_7 : List UInt8 := dkwX10_house_7 ++ []
def dkwX10_house_6 : List UInt8 := [7, 46, 79, 42, 180, 0, 13, 17, 1, 85, 3, 79, 42, 180, 0, 13, 17, 1, 206, 3, 79, 42, 3]
abbrev dktX10_house_6 : List UInt8 := dkwX10_house_6 ++ dktX10_house_7
def dkwX10_house_5 : List UInt8 := [17, 1, 74, 28, 96, 3, 79, 132, 2, 1, 167, 255, 224, 42, 180, 0, 13, 17, 1, 84, 42, 180, 0, 13]
abbrev dktX10_house_5 : List UInt8 := dkwX10_house_5 ++ dktX10_house_6
def dkwX10_house_4 : List UInt8 := [3, 61, 28, 16, 10, 162, 0, 32, 42, 180, 0, 25, 28, 42, 180, 0, 29, 28, 47, 80, 42, 180, 0, 13]
abbrev dktX10_house_4 : List UInt8 := dkwX10_house_4 ++ dktX10_house_5
def dkwX10_house_3 : List UInt8 := [17, 1, 74, 162, 0, 21, 42, 180, 0, 13, 28, 42, 180, 0, 16, 28, 46, 79, 132, 2, 1, 167, 255, 234]
abbrev dktX10_house_3 : List UInt8 := dkwX10_house_3 ++ dktX10_house_4
def dkwX10_house_2 : List UInt8 := [182, 0, 252, 154, 0, 10, 2, 42, 180, 0, 181, 100, 172, 132, 1, 1, 167, 255, 232, 3, 61, 28]
abbrev dktX10_house_2 : List UInt8 := dkwX10_house_2 ++ dktX10_house_3
def dkwX10_house_1 : List UInt8 := [132, 1, 1, 167, 255, 239, 42, 180, 0, 16, 7, 2, 79, 3, 60, 42, 180, 0, 131, 153, 0, 23, 42]
abbrev dktX10_house_1 : List UInt8 := dkwX10_house_1 ++ dktX10_house_2
def dkwX10_house_0 : List UInt8 := [42, 17, 3, 132, 182, 0, 249, 3, 60, 27, 17, 1, 74, 162, 0, 16, 42, 180, 0, 16, 27, 3, 79]
abbrev dktX10_house_0 : List UInt8 := dkwX10_house_0 ++ dktX10_house_1
theorem dksX10_house_0 : cX10_house.data.toList.drop 0 = dktX10_house_0 := by decide +kernel
theorem dksX10_house_1 : cX10_house.data.toList.drop 23 = dktX10_house_1 := dk_seg dksX10_house_0 23 rfl rfl
theorem dksX10_house_2 : cX10_house.data.toList.drop 46 = dktX10_house_2 := dk_seg dksX10_house_1 23 rfl rfl
theorem dksX10_house_3 : cX10_house.data.toList.drop 68 = dktX10_house_3 := dk_seg dksX10_house_2 22 rfl rfl
theorem dksX10_house_4 : cX10_house.data.toList.drop 92 = dktX10_house_4 := dk_seg dksX10_house_3 24 rfl rfl
theorem dksX10_house_5 : cX10_house.data.toList.drop 116 = dktX10_house_5 := dk_seg dksX10_house_4 24 rfl rfl
theorem dksX10_house_6 : cX10_house.data.toList.drop 140 = dktX10_house_6 := dk_seg dksX10_house_5 24 rfl rfl
theorem dksX10_house_7 : cX10_house.data.toList.drop 163 = dktX10_house_7 := dk_seg dksX10_house_6 23 rfl rfl
theorem dX10_house_0 : decode cX10_house 0 = .ok (.aload_n 0, 1) := dk_42 (dk_at dksX10_house_0 0 rfl rfl)
theorem dX10_house_1 : decode cX10_house 1 = .ok (.sipush 900, 3) := dk_17 3 132 (dk_at dksX10_house_0 1 rfl rfl)
theorem dX10_house_4 : decode cX10_house 4 = .ok (.invokevirtual 249, 3) := dk_182 0 249 (dk_at dksX10_house_0 4 rfl rfl)
theorem dX10_house_7 : decode cX10_house 7 = .ok (.iconst 0, 1) := dk_3 (dk_at dksX10_house_0 7 rfl rfl)
theorem dX10_house_8 : decode cX10_house 8 = .ok (.istore_n 1, 1) := dk_60 (dk_at dksX10_house_0 8 rfl rfl)
theorem dX10_house_9 : decode cX10_house 9 = .ok (.iload_n 1, 1) := dk_27 (dk_at dksX10_house_0 9 rfl rfl)
theorem dX10_house_10 : decode cX10_house 10 = .ok (.sipush 330, 3) := dk_17 1 74 (dk_at dksX10_house_0 10 rfl rfl)
theorem dX10_house_13 : decode cX10_house 13 = .ok (.if_icmp .ge 16, 3) := dk_162 0 16 (dk_at dksX10_house_0 13 rfl rfl)
theorem dX10_house_16 : decode cX10_house 16 = .ok (.aload_n 0, 1) := dk_42 (dk_at dksX10_house_0 16 rfl rfl)
theorem dX10_house_17 : decode cX10_house 17 = .ok (.getfield 16, 3) := dk_180 0 16 (dk_at dksX10_house_0 17 rfl rfl)
theorem dX10_house_20 : decode cX10_house 20 = .ok (.iload_n 1, 1) := dk_27 (dk_at dksX10_house_0 20 rfl rfl)
theorem dX10_house_21 : decode cX10_house 21 = .ok (.iconst 0, 1) := dk_3 (dk_at dksX10_house_0 21 rfl rfl)
theorem dX10_house_22 : decode cX10_house 22 = .ok (.iastore, 1) := dk_79 (dk_at dksX10_house_0 22 rfl rfl)
theorem dX10_house_23 : decode cX10_house 23 = .ok (.iinc 1 1, 3) := dk_132 1 1 (dk_at dksX10_house_1 0 rfl rfl)
theorem dX10_house_26 : decode cX10_house 26 = .ok (.goto (-17), 3) := dk_167 255 239 (dk_at dksX10_house_1 3 rfl rfl)
theorem dX10_house_29 : decode cX10_house 29 = .ok (.aload_n 0, 1) := dk_42 (dk_at dksX10_house_1 6 rfl rfl)
theorem dX10_house_30 : decode cX10_house 30 = .ok (.getfield 16, 3) := dk_180 0 16 (dk_at dksX10_house_1 7 rfl rfl)
theorem dX10_house_33 : decode cX10_house 33 = .ok (.iconst 4, 1) := dk_7 (dk_at dksX10_house_1 10 rfl rfl)
theorem dX10_house_34 : decode cX10_house 34 = .ok (.iconst (-1), 1) := dk_2 (dk_at dksX10_house_1 11 rfl rfl)
theorem dX10_house_35 : decode cX10_house 35 = .ok (.iastore, 1) := dk_79 (dk_at dksX10_house_1 12 rfl rfl)
theorem dX10_house_36 : decode cX10_house 36 = .ok (.iconst 0, 1) := dk_3 (dk_at dksX10_house_1 13 rfl rfl)
theorem dX10_house_37 : decode cX10_house 37 = .ok (.istore_n 1, 1) := dk_60 (dk_at dksX10_house_1 14 rfl rfl)
theorem dX10_house_38 : decode cX10_house 38 = .ok (.aload_n 0, 1) := dk_42 (dk_at dksX10_house_1 15 rfl rfl)
theorem dX10_house_39 : decode cX10_house 39 = .ok (.getfield 131, 3) := dk_180 0 131 (dk_at dksX10_house_1 16 rfl rfl)
theorem dX10_house_42 : decode cX10_house 42 = .ok (.ifCond .eq 23, 3) := dk_153 0 23 (dk_at dksX10_house_1 19 rfl rfl)
theorem dX10_house_45 : decode cX10_house 45 = .ok (.aload_n 0, 1) := dk_42 (dk_at dksX10_house_1 22 rfl rfl)
theorem dX10_house_46 : decode cX10_house 46 = .ok (.invokevirtual 252, 3) := dk_182 0 252 (dk_at dksX10_house_2 0 rfl rfl)
theorem dX10_house_49 : decode cX10_house 49 = .ok (.ifCond .ne 10, 3) := dk_154 0 10 (dk_at dksX10_house_2 3 rfl rfl)
theorem dX10_house_52 : decode cX10_house 52 = .ok (.iconst (-1), 1) := dk_2 (dk_at dksX10_house_2 6 rfl rfl)
theorem dX10_house_53 : decode cX10_house 53 = .ok (.aload_n 0, 1) := dk_42 (dk_at dksX10_house_2 7 rfl rfl)
theorem dX10_house_54 : decode cX10_house 54 = .ok (.getfield 181, 3) := dk_180 0 181 (dk_at dksX10_house_2 8 rfl rfl)
theorem dX10_house_57 : decode cX10_house 57 = .ok (.isub, 1) := dk_100 (dk_at dksX10_house_2 11 rfl rfl)
theorem dX10_house_58 : decode cX10_house 58 = .ok (.ireturn, 1) := dk_172 (dk_at dksX10_house_2 12 rfl rfl)
theorem dX10_house_59 : decode cX10_house 59 = .ok (.iinc 1 1, 3) := dk_132 1 1 (dk_at dksX10_house_2 13 rfl rfl)
theorem dX10_house_62 : decode cX10_house 62 = .ok (.goto (-24), 3) := dk_167 255 232 (dk_at dksX10_house_2 16 rfl rfl)
theorem dX10_house_65 : decode cX10_house 65 = .ok (.iconst 0, 1) := dk_3 (dk_at dksX10_house_2 19 rfl rfl)
theorem dX10_house_66 : decode cX10_house 66 = .ok (.istore_n 2, 1) := dk_61 (dk_at dksX10_house_2 20 rfl rfl)
theorem dX10_house_67 : decode cX10_house 67 = .ok (.iload_n 2, 1) := dk_28 (dk_at dksX10_house_2 21 rfl rfl)
theorem dX10_house_68 : decode cX10_house 68 = .ok (.sipush 330, 3) := dk_17 1 74 (dk_at dksX10_house_3 0 rfl rfl)
theorem dX10_house_71 : decode cX10_house 71 = .ok (.if_icmp .ge 21, 3) := dk_162 0 21 (dk_at dksX10_house_3 3 rfl rfl)
theorem dX10_house_74 : decode cX10_house 74 = .ok (.aload_n 0, 1) := dk_42 (dk_at dksX10_house_3 6 rfl rfl)
theorem dX10_house_75 : decode cX10_house 75 = .ok (.getfield 13, 3) := dk_180 0 13 (dk_at dksX10_house_3 7 rfl rfl)
theorem dX10_house_78 : decode cX10_house 78 = .ok (.iload_n 2, 1) := dk_28 (dk_at dksX10_house_3 10 rfl rfl)
theorem dX10_house_79 : decode cX10_house 79 = .ok (.aload_n 0, 1) := dk_42 (dk_at dksX10_house_3 11 rfl rfl)
theorem dX10_house_80 : decode cX10_house 80 = .ok (.getfield 16, 3) := dk_180 0 16 (dk_at dksX10_house_3 12 rfl rfl)
theorem dX10_house_83 : decode cX10_house 83 = .ok (.iload_n 2, 1) := dk_28 (dk_at dksX10_house_3 15 rfl rfl)
theorem dX10_house_84 : decode cX10_house 84 = .ok (.iaload, 1) := dk_46 (dk_at dksX10_house_3 16 rfl rfl)
theorem dX10_house_85 : decode cX10_house 85 = .ok (.iastore, 1) := dk_79 (dk_at dksX10_house_3 17 rfl rfl)
theorem dX10_house_86 : decode cX10_house 86 = .ok (.iinc 2 1, 3) := dk_132 2 1 (dk_at dksX10_house_3 18 rfl rfl)
theorem dX10_house_89 : decode cX10_house 89 = .ok (.goto (-22), 3) := dk_167 255 234 (dk_at dksX10_house_3 21 rfl rfl)
theorem dX10_house_92 : decode cX10_house 92 = .ok (.iconst 0, 1) := dk_3 (dk_at dksX10_house_4 0 rfl rfl)
theorem dX10_house_93 : decode cX10_house 93 = .ok (.istore_n 2, 1) := dk_61 (dk_at dksX10_house_4 1 rfl rfl)
theorem dX10_house_94 : decode cX10_house 94 = .ok (.iload_n 2, 1) := dk_28 (dk_at dksX10_house_4 2 rfl rfl)
theorem dX10_house_95 : decode cX10_house 95 = .ok (.bipush 10, 2) := dk_16 10 (dk_at dksX10_house_4 3 rfl rfl)
theorem dX10_house_97 : decode cX10_house 97 = .ok (.if_icmp .ge 32, 3) := dk_162 0 32 (dk_at dksX10_house_4 5 rfl rfl)
theorem dX10_house_100 : decode cX10_house 100 = .ok (.aload_n 0, 1) := dk_42 (dk_at dksX10_house_4 8 rfl rfl)
theorem dX10_house_101 : decode cX10_house 101 = .ok (.getfield 25, 3) := dk_180 0 25 (dk_at dksX10_house_4 9 rfl rfl)
theorem dX10_house_104 : decode cX10_house 104 = .ok (.iload_n 2, 1) := dk_28 (dk_at dksX10_house_4 12 rfl rfl)
theorem dX10_house_105 : decode cX10_house 105 = .ok (.aload_n 0, 1) := dk_42 (dk_at dksX10_house_4 13 rfl rfl)
theorem dX10_house_106 : decode cX10_house 106 = .ok (.getfield 29, 3) := dk_180 0 29 (dk_at dksX10_house_4 14 rfl rfl)
theorem dX10_house_109 : decode cX10_house 109 = .ok (.iload_n 2, 1) := dk_28 (dk_at dksX10_house_4 17 rfl rfl)
theorem dX10_house_110 : decode cX10_house 110 = .ok (.laload, 1) := dk_47 (dk_at dksX10_house_4 18 rfl rfl)
theorem dX10_house_111 : decode cX10_house 111 = .ok (.lastore, 1) := dk_80 (dk_at dksX10_house_4 19 rfl rfl)
theorem dX10_house_112 : decode cX10_house 112 = .ok (.aload_n 0, 1) := dk_42 (dk_at dksX10_house_4 20 rfl rfl)
theorem dX10_house_113 : decode cX10_house 113 = .ok (.getfield 13, 3) := dk_180 0 13 (dk_at dksX10_house_4 21 rfl rfl)
theorem dX10_house_116 : decode cX10_house 116 = .ok (.sipush 330, 3) := dk_17 1 74 (dk_at dksX10_house_5 0 rfl rfl)
theorem dX10_house_119 : decode cX10_house 119 = .ok (.iload_n 2, 1) := dk_28 (dk_at dksX10_house_5 3 rfl rfl)
theorem dX10_house_120 : decode cX10_house 120 = .ok (.iadd, 1) := dk_96 (dk_at dksX10_house_5 4 rfl rfl)
theorem dX10_house_121 : decode cX10_house 121 = .ok (.iconst 0, 1) := dk_3 (dk_at dksX10_house_5 5 rfl rfl)
theorem dX10_house_122 : decode cX10_house 122 = .ok (.iastore, 1) := dk_79 (dk_at dksX10_house_5 6 rfl rfl)
theorem dX10_house_123 : decode cX10_house 123 = .ok (.iinc 2 1, 3) := dk_132 2 1 (dk_at dksX10_house_5 7 rfl rfl)
theorem dX10_house_126 : decode cX10_house 126 = .ok (.goto (-32), 3) := dk_167 255 224 (dk_at dksX10_house_5 10 rfl rfl)
theorem dX10_house_129 : decode cX10_house 129 = .ok (.aload_n 0, 1) := dk_42 (dk_at dksX10_house_5 13 rfl rfl)
theorem dX10_house_130 : decode cX10_house 130 = .ok (.getfield 13, 3) := dk_180 0 13 (dk_at dksX10_house_5 14 rfl rfl)
theorem dX10_house_133 : decode cX10_house 133 = .ok (.sipush 340, 3) := dk_17 1 84 (dk_at dksX10_house_5 17 rfl rfl)
theorem dX10_house_136 : decode cX10_house 136 = .ok (.aload_n 0, 1) := dk_42 (dk_at dksX10_house_5 20 rfl rfl)
theorem dX10_house_137 : decode cX10_house 137 = .ok (.getfield 13, 3) := dk_180 0 13 (dk_at dksX10_house_5 21 rfl rfl)
theorem dX10_house_140 : decode cX10_house 140 = .ok (.iconst 4, 1) := dk_7 (dk_at dksX10_house_6 0 rfl rfl)
theorem dX10_house_141 : decode cX10_house 141 = .ok (.iaload, 1) := dk_46 (dk_at dksX10_house_6 1 rfl rfl)
theorem dX10_house_142 : decode cX10_house 142 = .ok (.iastore, 1) := dk_79 (dk_at dksX10_house_6 2 rfl rfl)
theorem dX10_house_143 : decode cX10_house 143 = .ok (.aload_n 0, 1) := dk_42 (dk_at dksX10_house_6 3 rfl rfl)
theorem dX10_house_144 : decode cX10_house 144 = .ok (.getfield 13, 3) := dk_180 0 13 (dk_at dksX10_house_6 4 rfl rfl)
theorem dX10_house_147 : decode cX10_house 147 = .ok (.sipush 341, 3) := dk_17 1 85 (dk_at dksX10_house_6 7 rfl rfl)
theorem dX10_house_150 : decode cX10_house 150 = .ok (.iconst 0, 1) := dk_3 (dk_at dksX10_house_6 10 rfl rfl)
theorem dX10_house_151 : decode cX10_house 151 = .ok (.iastore, 1) := dk_79 (dk_at dksX10_house_6 11 rfl rfl)
theorem dX10_house_152 : decode cX10_house 152 = .ok (.aload_n 0, 1) := dk_42 (dk_at dksX10_house_6 12 rfl rfl)
theorem dX10_house_153 : decode cX10_house 153 = .ok (.getfield 13, 3) := dk_180 0 13 (dk_at dksX10_house_6 13 rfl rfl)
theorem dX10_house_156 : decode cX10_house 156 = .ok (.sipush 462, 3) := dk_17 1 206 (dk_at dksX10_house_6 16 rfl rfl)
theorem dX10_house_159 : decode cX10_house 159 = .ok (.iconst 0, 1) := dk_3 (dk_at dksX10_house_6 19 rfl rfl)
theorem dX10_house_160 : decode cX10_house 160 = .ok (.iastore, 1) := dk_79 (dk_at dksX10_house_6 20 rfl rfl)
theorem dX10_house_161 : decode cX10_house 161 = .ok (.aload_n 0, 1) := dk_42 (dk_at dksX10_house_6 21 rfl rfl)
theorem dX10_house_162 : decode cX10_house 162 = .ok (.iconst 0, 1) := dk_3 (dk_at dksX10_house_6 22 rfl rfl)
theorem dX10_house_163 : decode cX10_house 163 = .ok (.putfield 255, 3) := dk_181 0 255 (dk_at dksX10_house_7 0 rfl rfl)
theorem dX10_house_166 : decode cX10_house 166 = .ok (.iload_n 1, 1) := dk_27 (dk_at dksX10_house_7 3 rfl rfl)
theorem dX10_house_167 : decode cX10_house 167 = .ok (.ireturn, 1) := dk_172 (dk_at dksX10_house_7 4 rfl rfl)
theorem fl_X10_181 : gFl "BitingDoorsModel" 181 [8] 11 := by
  intro args s hts hN ci hc
  simp only [List.mem_cons, List.not_mem_nil, or_false] at hc
  subst hc
  exact ⟨RX10, TX10, 64, "BitingDoorsModel", gCl_X10, in_X10, by decide, Or.inl (hts _ q1661), fun _ h => h⟩
theorem dn_X10_house : yX10_house.cls ≠ "java/lang/invoke/MethodHandle" ∧ yX10_house.cls ≠ "java/lang/invoke/VarHandle" ∧ (parseMethodDescriptor yX10_house.desc).map (fun d => d.parameters.length) = some 0 := by decide +kernel
noncomputable def M_X10_house  : TM Int32 := TM.bind (M_X10_begin 900) (fun v1 => TM.bind (TM.loop (S := Int32) (E := Unit) (fun s2 => if 330 ≤ s2 then TM.pure (Sum.inr ()) else TM.bind (sA 15 330 s2 0) (fun _ => TM.lv (s2 + 1) (fun v6 => TM.pure (Sum.inl v6)))) 0) (fun e5 => TM.bind (sA 15 330 4 (-1)) (fun _ => TM.loop (S := Int32) (fun s7 => TM.bind (tI 7) (fun v10 => if v10 = 0 then TM.bind (TM.loop (S := Int32) (E := Unit) (fun s11 => if 330 ≤ s11 then TM.pure (Sum.inr ()) else TM.bind (tA 15 330 s11) (fun v15 => TM.bind (sA 14 704 s11 v15) (fun _ => TM.lv (s11 + 1) (fun v16 => TM.pure (Sum.inl v16))))) 0) (fun e14 => TM.bind (TM.loop (S := Int32) (E := Unit) (fun s17 => if 10 ≤ s17 then TM.pure (Sum.inr ()) else TM.bind (tB 19 10 s17) (fun v21 => TM.bind (sB 18 10 s17 v21) (fun _ => TM.bind (sA 14 704 (330 + s17) 0) (fun _ => TM.lv (s17 + 1) (fun v22 => TM.pure (Sum.inl v22)))))) 0) (fun e20 => TM.bind (tA 14 704 4) (fun v23 => TM.bind (sA 14 704 340 v23) (fun _ => TM.bind (sA 14 704 341 0) (fun _ => TM.bind (sA 14 704 462 0) (fun _ => TM.bind (sI 23 0) (fun _ => TM.pure (Sum.inr s7)))))))) else TM.bind (M_X10_readLine) (fun v24 => cond v24 (TM.lv (s7 + 1) (fun v25 => TM.pure (Sum.inl v25))) (TM.bind (tI 11) (fun v26 => TM.pure (Sum.inr ((-1) - v26))))))) 0)))
set_option maxHeartbeats 4000000 in
theorem ct_X10_house (G : gG) (am : Nat)  : gCtM G am yX10_house cX10_house 3 (some .int) 5 114 [.ref am] (M_X10_house) (fun x : Int32 => some (.int x)) := by
  refine gCtM.of (by decide) (Nat.le_of_ble_eq_true rfl) (fun K hn ms ms' r hG X hK hd ho => ?_)
  subst hG
  have X : gX K cX10_house 3 "BitingDoorsModel" "house" (some .int) 5 114 := X
  show V K 3 (mkM am hn ms) 0 [(0, .ref am)] []
  unfold M_X10_house at hd
  refine v_aload_n X dX10_house_0 0 0 rfl rfl ?_
  refine v_sipush (v := 900) X dX10_house_1 (by decide) ?_
  refine t_callV X hK hd (ct_X10_begin _ am 900) (lw_V q1864 q1866 qs36 q120 q1867) ⟨rfl, dn_X10_begin⟩ rfl ⟨by decide, by decide⟩ rfl (Nat.le_of_ble_eq_true rfl) dX10_house_4 (fun v1 ms hd => ?_)
  show V K 3 (mkM am hn ms) 7 [(0, .ref am)] []
  refine v_iconst (v := 0) X dX10_house_7 (by decide) ?_
  refine v_istore_n (lv2 := [(1, .int 0), (0, .ref am)]) X dX10_house_8 1 rfl (by decide) rfl ?_
  obtain ⟨e5, m1, hd, hd2⟩ := TM.bind_some hd
  have KX : V K 3 (mkM am hn m1) 29 [(0, .ref am)] [] := by
    clear hd
    have hd := hd2
    refine v_aload_n X dX10_house_29 0 0 rfl rfl ?_
    refine t_getA (j := 2) X rfl fl_X10_16 dX10_house_30 ?_
    refine v_iconst (v := 4) X dX10_house_33 (by decide) ?_
    refine v_iconst (v := (-1)) X dX10_house_34 (by decide) ?_
    refine t_iast (j := 2) X hd rfl dX10_house_35 (fun ms hd => ?_)
    refine v_iconst (v := 0) X dX10_house_36 (by decide) ?_
    refine v_istore_n (lv2 := [(1, .int 0), (0, .ref am)]) X dX10_house_37 1 rfl (by decide) rfl ?_
    refine v_loc [1, 0] rfl ?_
    refine Tloop_ind hd (fun (s7 : Int32) m => V K 3 (mkM am hn m) 38 [(0, .ref am), (1, .int s7)] []) (fun s7 ms x m2 hd ih8 ho9 => ?_)
    refine v_aload_n X dX10_house_38 0 0 rfl rfl ?_
    refine t_getI X hd rfl fl_X10_131 dX10_house_39 (fun v10 hd => ?_)
    refine v_if_eq (tgt := 65) X dX10_house_42 (by decide) (fun q => ?_) (fun q => ?_)
    · have hd := Tite_t q hd
      refine v_iconst (v := 0) X dX10_house_65 (by decide) ?_
      refine v_istore_n (lv2 := [(2, .int 0), (0, .ref am), (1, .int s7)]) X dX10_house_66 2 rfl (by decide) rfl ?_
      obtain ⟨e14, m1, hd, hd2⟩ := TM.bind_some hd
      have KX : V K 3 (mkM am hn m1) 92 [(0, .ref am), (1, .int s7)] [] := by
        clear hd
        have hd := hd2
        refine v_iconst (v := 0) X dX10_house_92 (by decide) ?_
        refine v_istore_n (lv2 := [(2, .int 0), (0, .ref am), (1, .int s7)]) X dX10_house_93 2 rfl (by decide) rfl ?_
        obtain ⟨e20, m1, hd, hd2⟩ := TM.bind_some hd
        have KX : V K 3 (mkM am hn m1) 129 [(0, .ref am), (1, .int s7)] [] := by
          clear hd
          have hd := hd2
          refine v_aload_n X dX10_house_129 0 0 rfl rfl ?_
          refine t_getA (j := 1) X rfl fl_X10_13 dX10_house_130 ?_
          refine v_sipush (v := 340) X dX10_house_133 (by decide) ?_
          refine v_aload_n X dX10_house_136 0 0 rfl rfl ?_
          refine t_getA (j := 1) X rfl fl_X10_13 dX10_house_137 ?_
          refine v_iconst (v := 4) X dX10_house_140 (by decide) ?_
          refine t_iald (j := 1) X hd rfl dX10_house_141 (fun v23 hd => ?_)
          refine t_iast (j := 1) X hd rfl dX10_house_142 (fun ms hd => ?_)
          refine v_aload_n X dX10_house_143 0 0 rfl rfl ?_
          refine t_getA (j := 1) X rfl fl_X10_13 dX10_house_144 ?_
          refine v_sipush (v := 341) X dX10_house_147 (by decide) ?_
          refine v_iconst (v := 0) X dX10_house_150 (by decide) ?_
          refine t_iast (j := 1) X hd rfl dX10_house_151 (fun ms hd => ?_)
          refine v_aload_n X dX10_house_152 0 0 rfl rfl ?_
          refine t_getA (j := 1) X rfl fl_X10_13 dX10_house_153 ?_
          refine v_sipush (v := 462) X dX10_house_156 (by decide) ?_
          refine v_iconst (v := 0) X dX10_house_159 (by decide) ?_
          refine t_iast (j := 1) X hd rfl dX10_house_160 (fun ms hd => ?_)
          refine v_aload_n X dX10_house_161 0 0 rfl rfl ?_
          refine v_iconst (v := 0) X dX10_house_162 (by decide) ?_
          refine t_putI X hd rfl fp_X10_255 dX10_house_163 (fun ms hd => ?_)
          refine v_iload_n X dX10_house_166 1 1 rfl rfl ?_
          have hd := Tlp_out hd ho9
          exact t_iret X hK hd ho dX10_house_167
        clear hd2
        refine v_loc [1, 2, 0] rfl ?_
        refine Tloop_ind hd (fun (s17 : Int32) m => V K 3 (mkM am hn m) 94 [(0, .ref am), (1, .int s7), (2, .int s17)] []) (fun s17 ms x m2 hd ih18 ho19 => ?_)
        refine v_iload_n X dX10_house_94 2 2 rfl rfl ?_
        refine v_bipush (v := 10) X dX10_house_95 (by decide) ?_
        refine v_icmp_ge (tgt := 129) X dX10_house_97 (by decide) (fun q => ?_) (fun q => ?_)
        · have hd := Tite_t q hd
          exact v_loc [0, 1] rfl (t_at (P := fun (e20 : Unit) m => V K 3 (mkM am hn m) 129 [(0, .ref am), (1, .int s7)] []) (Tlp_out hd ho19) KX)
        · have hd := Tite_f q hd
          refine v_aload_n X dX10_house_100 0 0 rfl rfl ?_
          refine t_getA (j := 5) X rfl fl_X10_25 dX10_house_101 ?_
          refine v_iload_n X dX10_house_104 2 2 rfl rfl ?_
          refine v_aload_n X dX10_house_105 0 0 rfl rfl ?_
          refine t_getA (j := 6) X rfl fl_X10_29 dX10_house_106 ?_
          refine v_iload_n X dX10_house_109 2 2 rfl rfl ?_
          refine t_lald (j := 6) X hd rfl dX10_house_110 (fun v21 hd => ?_)
          refine t_last (j := 5) X hd rfl dX10_house_111 (fun ms hd => ?_)
          refine v_aload_n X dX10_house_112 0 0 rfl rfl ?_
          refine t_getA (j := 1) X rfl fl_X10_13 dX10_house_113 ?_
          refine v_sipush (v := 330) X dX10_house_116 (by decide) ?_
          refine v_iload_n X dX10_house_119 2 2 rfl rfl ?_
          refine v_iadd X dX10_house_120 ?_
          refine v_iconst (v := 0) X dX10_house_121 (by decide) ?_
          refine t_iast (j := 1) X hd rfl dX10_house_122 (fun ms hd => ?_)
          refine t_iincL (lv2 := fun v22 => [(2, .int v22), (0, .ref am), (1, .int s7)]) X hd dX10_house_123 2 rfl (by decide : Int32.ofInt 1 = 1) (by decide) (fun v22 => rfl) (fun v22 hd => ?_)
          refine v_goto (tgt := 94) X dX10_house_126 (by decide) ?_
          exact v_loc [1, 2, 0] rfl (Tlp_in (P := fun (s17 : Int32) m => V K 3 (mkM am hn m) 94 [(0, .ref am), (1, .int s7), (2, .int s17)] []) hd ih18)
      clear hd2
      refine v_loc [1, 2, 0] rfl ?_
      refine Tloop_ind hd (fun (s11 : Int32) m => V K 3 (mkM am hn m) 67 [(0, .ref am), (1, .int s7), (2, .int s11)] []) (fun s11 ms x m2 hd ih12 ho13 => ?_)
      refine v_iload_n X dX10_house_67 2 2 rfl rfl ?_
      refine v_sipush (v := 330) X dX10_house_68 (by decide) ?_
      refine v_icmp_ge (tgt := 92) X dX10_house_71 (by decide) (fun q => ?_) (fun q => ?_)
      · have hd := Tite_t q hd
        exact v_loc [0, 1] rfl (t_at (P := fun (e14 : Unit) m => V K 3 (mkM am hn m) 92 [(0, .ref am), (1, .int s7)] []) (Tlp_out hd ho13) KX)
      · have hd := Tite_f q hd
        refine v_aload_n X dX10_house_74 0 0 rfl rfl ?_
        refine t_getA (j := 1) X rfl fl_X10_13 dX10_house_75 ?_
        refine v_iload_n X dX10_house_78 2 2 rfl rfl ?_
        refine v_aload_n X dX10_house_79 0 0 rfl rfl ?_
        refine t_getA (j := 2) X rfl fl_X10_16 dX10_house_80 ?_
        refine v_iload_n X dX10_house_83 2 2 rfl rfl ?_
        refine t_iald (j := 2) X hd rfl dX10_house_84 (fun v15 hd => ?_)
        refine t_iast (j := 1) X hd rfl dX10_house_85 (fun ms hd => ?_)
        refine t_iincL (lv2 := fun v16 => [(2, .int v16), (0, .ref am), (1, .int s7)]) X hd dX10_house_86 2 rfl (by decide : Int32.ofInt 1 = 1) (by decide) (fun v16 => rfl) (fun v16 hd => ?_)
        refine v_goto (tgt := 67) X dX10_house_89 (by decide) ?_
        exact v_loc [1, 2, 0] rfl (Tlp_in (P := fun (s11 : Int32) m => V K 3 (mkM am hn m) 67 [(0, .ref am), (1, .int s7), (2, .int s11)] []) hd ih12)
    · have hd := Tite_f q hd
      refine v_aload_n X dX10_house_45 0 0 rfl rfl ?_
      refine t_callV X hK hd (ct_X10_readLine _ am) (lw_V q1892 q1894 qs41 q120 q1895) ⟨rfl, dn_X10_readLine⟩ rfl ⟨by decide, by decide⟩ rfl (Nat.le_of_ble_eq_true rfl) dX10_house_46 (fun v24 ms hd => ?_)
      show V K 3 (mkM am hn ms) 49 [(0, .ref am), (1, .int s7)] [.int (b2i v24)]
      refine v_ifZ_ne (tgt := 59) X dX10_house_49 (by decide) (fun q => ?_) (fun q => ?_)
      · have hd := Tcnd_t q hd
        refine t_iincL (lv2 := fun v25 => [(1, .int v25), (0, .ref am)]) X hd dX10_house_59 1 rfl (by decide : Int32.ofInt 1 = 1) (by decide) (fun v25 => rfl) (fun v25 hd => ?_)
        refine v_goto (tgt := 38) X dX10_house_62 (by decide) ?_
        exact v_loc [1, 0] rfl (Tlp_in (P := fun (s7 : Int32) m => V K 3 (mkM am hn m) 38 [(0, .ref am), (1, .int s7)] []) hd ih8)
      · have hd := Tcnd_f q hd
        refine v_iconst (v := (-1)) X dX10_house_52 (by decide) ?_
        refine v_aload_n X dX10_house_53 0 0 rfl rfl ?_
        refine t_getI X hd rfl fl_X10_181 dX10_house_54 (fun v26 hd => ?_)
        refine v_isub X dX10_house_57 ?_
        have hd := Tlp_out hd ho9
        exact t_iret X hK hd ho dX10_house_58
  clear hd2
  refine v_loc [1, 0] rfl ?_
  refine Tloop_ind hd (fun (s2 : Int32) m => V K 3 (mkM am hn m) 9 [(0, .ref am), (1, .int s2)] []) (fun s2 ms x m2 hd ih3 ho4 => ?_)
  refine v_iload_n X dX10_house_9 1 1 rfl rfl ?_
  refine v_sipush (v := 330) X dX10_house_10 (by decide) ?_
  refine v_icmp_ge (tgt := 29) X dX10_house_13 (by decide) (fun q => ?_) (fun q => ?_)
  · have hd := Tite_t q hd
    exact v_loc [0] rfl (t_at (P := fun (e5 : Unit) m => V K 3 (mkM am hn m) 29 [(0, .ref am)] []) (Tlp_out hd ho4) KX)
  · have hd := Tite_f q hd
    refine v_aload_n X dX10_house_16 0 0 rfl rfl ?_
    refine t_getA (j := 2) X rfl fl_X10_16 dX10_house_17 ?_
    refine v_iload_n X dX10_house_20 1 1 rfl rfl ?_
    refine v_iconst (v := 0) X dX10_house_21 (by decide) ?_
    refine t_iast (j := 2) X hd rfl dX10_house_22 (fun ms hd => ?_)
    refine t_iincL (lv2 := fun v6 => [(1, .int v6), (0, .ref am)]) X hd dX10_house_23 1 rfl (by decide : Int32.ofInt 1 = 1) (by decide) (fun v6 => rfl) (fun v6 hd => ?_)
    refine v_goto (tgt := 9) X dX10_house_26 (by decide) ?_
    exact v_loc [1, 0] rfl (Tlp_in (P := fun (s2 : Int32) m => V K 3 (mkM am hn m) 9 [(0, .ref am), (1, .int s2)] []) hd ih3)
def dkwX10_fewest_1 : List UInt8 := [108, 172]
abbrev dktX10_fewest_1 : List UInt8 := dkwX10_fewest_1 ++ []
def dkwX10_fewest_0 : List UInt8 := [42, 3, 181, 0, 108, 42, 3, 182, 1, 64, 60, 27, 2, 160, 0, 7, 2, 167, 0, 8, 27, 17, 39, 16]
abbrev dktX10_fewest_0 : List UInt8 := dkwX10_fewest_0 ++ dktX10_fewest_1
theorem dksX10_fewest_0 : cX10_fewest.data.toList.drop 0 = dktX10_fewest_0 := by decide +kernel
theorem dksX10_fewest_1 : cX10_fewest.data.toList.drop 24 = dktX10_fewest_1 := dk_seg dksX10_fewest_0 24 rfl rfl
theorem dX10_fewest_0 : decode cX10_fewest 0 = .ok (.aload_n 0, 1) := dk_42 (dk_at dksX10_fewest_0 0 rfl rfl)
theorem dX10_fewest_1 : decode cX10_fewest 1 = .ok (.iconst 0, 1) := dk_3 (dk_at dksX10_fewest_0 1 rfl rfl)
theorem dX10_fewest_2 : decode cX10_fewest 2 = .ok (.putfield 108, 3) := dk_181 0 108 (dk_at dksX10_fewest_0 2 rfl rfl)
theorem dX10_fewest_5 : decode cX10_fewest 5 = .ok (.aload_n 0, 1) := dk_42 (dk_at dksX10_fewest_0 5 rfl rfl)
theorem dX10_fewest_6 : decode cX10_fewest 6 = .ok (.iconst 0, 1) := dk_3 (dk_at dksX10_fewest_0 6 rfl rfl)
theorem dX10_fewest_7 : decode cX10_fewest 7 = .ok (.invokevirtual 320, 3) := dk_182 1 64 (dk_at dksX10_fewest_0 7 rfl rfl)
theorem dX10_fewest_10 : decode cX10_fewest 10 = .ok (.istore_n 1, 1) := dk_60 (dk_at dksX10_fewest_0 10 rfl rfl)
theorem dX10_fewest_11 : decode cX10_fewest 11 = .ok (.iload_n 1, 1) := dk_27 (dk_at dksX10_fewest_0 11 rfl rfl)
theorem dX10_fewest_12 : decode cX10_fewest 12 = .ok (.iconst (-1), 1) := dk_2 (dk_at dksX10_fewest_0 12 rfl rfl)
theorem dX10_fewest_13 : decode cX10_fewest 13 = .ok (.if_icmp .ne 7, 3) := dk_160 0 7 (dk_at dksX10_fewest_0 13 rfl rfl)
theorem dX10_fewest_16 : decode cX10_fewest 16 = .ok (.iconst (-1), 1) := dk_2 (dk_at dksX10_fewest_0 16 rfl rfl)
theorem dX10_fewest_17 : decode cX10_fewest 17 = .ok (.goto 8, 3) := dk_167 0 8 (dk_at dksX10_fewest_0 17 rfl rfl)
theorem dX10_fewest_20 : decode cX10_fewest 20 = .ok (.iload_n 1, 1) := dk_27 (dk_at dksX10_fewest_0 20 rfl rfl)
theorem dX10_fewest_21 : decode cX10_fewest 21 = .ok (.sipush 10000, 3) := dk_17 39 16 (dk_at dksX10_fewest_0 21 rfl rfl)
theorem dX10_fewest_24 : decode cX10_fewest 24 = .ok (.idiv, 1) := dk_108 (dk_at dksX10_fewest_1 0 rfl rfl)
theorem dX10_fewest_25 : decode cX10_fewest 25 = .ok (.ireturn, 1) := dk_172 (dk_at dksX10_fewest_1 1 rfl rfl)
theorem dn_X10_fewest : yX10_fewest.cls ≠ "java/lang/invoke/MethodHandle" ∧ yX10_fewest.cls ≠ "java/lang/invoke/VarHandle" ∧ (parseMethodDescriptor yX10_fewest.desc).map (fun d => d.parameters.length) = some 0 := by decide +kernel
noncomputable def M_X10_fewest  : TM Int32 := TM.bind (sI 0 0) (fun _ => TM.bind (M_X10_hangAll false) (fun v1 => TM.bind ((if v1 = (-1) then TM.pure (-1) else TM.pure (v1 / 10000) : TM (Int32))) (fun u2 => TM.pure u2)))
set_option maxHeartbeats 4000000 in
theorem ct_X10_fewest (G : gG) (am : Nat)  : gCtM G am yX10_fewest cX10_fewest 2 (some .int) 16 381 [.ref am] (M_X10_fewest) (fun x : Int32 => some (.int x)) := by
  refine gCtM.of (by decide) (Nat.le_of_ble_eq_true rfl) (fun K hn ms ms' r hG X hK hd ho => ?_)
  subst hG
  have X : gX K cX10_fewest 2 "BitingDoorsModel" "fewest" (some .int) 16 381 := X
  show V K 2 (mkM am hn ms) 0 [(0, .ref am)] []
  unfold M_X10_fewest at hd
  refine v_aload_n X dX10_fewest_0 0 0 rfl rfl ?_
  refine v_iconst (v := 0) X dX10_fewest_1 (by decide) ?_
  refine t_putI X hd rfl fp_X10_108 dX10_fewest_2 (fun ms hd => ?_)
  refine v_aload_n X dX10_fewest_5 0 0 rfl rfl ?_
  refine v_iconst (v := 0) X dX10_fewest_6 (by decide) ?_
  refine t_callV X hK hd (ct_X10_hangAll _ am false) (lw_V q2057 q2059 qs68 q120 q2060) ⟨rfl, dn_X10_hangAll⟩ rfl ⟨by decide, by decide⟩ rfl (Nat.le_of_ble_eq_true rfl) dX10_fewest_7 (fun v1 ms hd => ?_)
  show V K 2 (mkM am hn ms) 10 [(0, .ref am)] [.int v1]
  refine v_istore_n (lv2 := [(1, .int v1), (0, .ref am)]) X dX10_fewest_10 1 rfl (by decide) rfl ?_
  refine v_iload_n X dX10_fewest_11 0 1 rfl rfl ?_
  refine v_iconst (v := (-1)) X dX10_fewest_12 (by decide) ?_
  obtain ⟨u2, m1, hd, hd2⟩ := TM.bind_some hd
  have KJ : V K 2 (mkM am hn m1) 25 [] [.int u2] := by
    clear hd
    have hd := hd2
    exact t_iret X hK hd ho dX10_fewest_25
  clear hd2
  refine v_icmp_ne (tgt := 20) X dX10_fewest_13 (by decide) (fun q => ?_) (fun q => ?_)
  · have hd := Tite_f q hd
    refine v_iload_n X dX10_fewest_20 0 1 rfl rfl ?_
    refine v_sipush (v := 10000) X dX10_fewest_21 (by decide) ?_
    refine v_idiv X dX10_fewest_24 (by decide) ?_
    exact v_loc [] rfl (t_at (P := fun (u2 : Int32) m => V K 2 (mkM am hn m) 25 [] [.int u2]) hd KJ)
  · have hd := Tite_t q hd
    refine v_iconst (v := (-1)) X dX10_fewest_16 (by decide) ?_
    refine v_goto (tgt := 25) X dX10_fewest_17 (by decide) ?_
    exact v_loc [] rfl (t_at (P := fun (u2 : Int32) m => V K 2 (mkM am hn m) 25 [] [.int u2]) hd KJ)
def dkwX10_end_1 : List UInt8 := [4, 172]
abbrev dktX10_end_1 : List UInt8 := dkwX10_end_1 ++ []
def dkwX10_end_0 : List UInt8 := [42, 3, 181, 0, 108, 27, 155, 0, 11, 27, 42, 180, 0, 112, 164, 0, 5, 3, 172, 42, 27, 181, 0, 112]
abbrev dktX10_end_0 : List UInt8 := dkwX10_end_0 ++ dktX10_end_1
theorem dksX10_end_0 : cX10_end.data.toList.drop 0 = dktX10_end_0 := by decide +kernel
theorem dksX10_end_1 : cX10_end.data.toList.drop 24 = dktX10_end_1 := dk_seg dksX10_end_0 24 rfl rfl
theorem dX10_end_0 : decode cX10_end 0 = .ok (.aload_n 0, 1) := dk_42 (dk_at dksX10_end_0 0 rfl rfl)
theorem dX10_end_1 : decode cX10_end 1 = .ok (.iconst 0, 1) := dk_3 (dk_at dksX10_end_0 1 rfl rfl)
theorem dX10_end_2 : decode cX10_end 2 = .ok (.putfield 108, 3) := dk_181 0 108 (dk_at dksX10_end_0 2 rfl rfl)
theorem dX10_end_5 : decode cX10_end 5 = .ok (.iload_n 1, 1) := dk_27 (dk_at dksX10_end_0 5 rfl rfl)
theorem dX10_end_6 : decode cX10_end 6 = .ok (.ifCond .lt 11, 3) := dk_155 0 11 (dk_at dksX10_end_0 6 rfl rfl)
theorem dX10_end_9 : decode cX10_end 9 = .ok (.iload_n 1, 1) := dk_27 (dk_at dksX10_end_0 9 rfl rfl)
theorem dX10_end_10 : decode cX10_end 10 = .ok (.aload_n 0, 1) := dk_42 (dk_at dksX10_end_0 10 rfl rfl)
theorem dX10_end_11 : decode cX10_end 11 = .ok (.getfield 112, 3) := dk_180 0 112 (dk_at dksX10_end_0 11 rfl rfl)
theorem dX10_end_14 : decode cX10_end 14 = .ok (.if_icmp .le 5, 3) := dk_164 0 5 (dk_at dksX10_end_0 14 rfl rfl)
theorem dX10_end_17 : decode cX10_end 17 = .ok (.iconst 0, 1) := dk_3 (dk_at dksX10_end_0 17 rfl rfl)
theorem dX10_end_18 : decode cX10_end 18 = .ok (.ireturn, 1) := dk_172 (dk_at dksX10_end_0 18 rfl rfl)
theorem dX10_end_19 : decode cX10_end 19 = .ok (.aload_n 0, 1) := dk_42 (dk_at dksX10_end_0 19 rfl rfl)
theorem dX10_end_20 : decode cX10_end 20 = .ok (.iload_n 1, 1) := dk_27 (dk_at dksX10_end_0 20 rfl rfl)
theorem dX10_end_21 : decode cX10_end 21 = .ok (.putfield 112, 3) := dk_181 0 112 (dk_at dksX10_end_0 21 rfl rfl)
theorem dX10_end_24 : decode cX10_end 24 = .ok (.iconst 1, 1) := dk_4 (dk_at dksX10_end_1 0 rfl rfl)
theorem dX10_end_25 : decode cX10_end 25 = .ok (.ireturn, 1) := dk_172 (dk_at dksX10_end_1 1 rfl rfl)
theorem dn_X10_end : yX10_end.cls ≠ "java/lang/invoke/MethodHandle" ∧ yX10_end.cls ≠ "java/lang/invoke/VarHandle" ∧ (parseMethodDescriptor yX10_end.desc).map (fun d => d.parameters.length) = some 1 := by decide +kernel
noncomputable def M_X10_end (p1 : Int32) : TM Bool := TM.bind (sI 0 0) (fun _ => if p1 < 0 then TM.pure false else TM.bind (tI 2) (fun v1 => if p1 ≤ v1 then TM.bind (sI 2 p1) (fun _ => TM.pure true) else TM.pure false))
set_option maxHeartbeats 4000000 in
theorem ct_X10_end (G : gG) (am : Nat) (p1 : Int32) : gCtM G am yX10_end cX10_end 2 (some .boolean) 0 0 [.ref am, .int p1] (M_X10_end p1) (fun x : Bool => some (.int (b2i x))) := by
  refine gCtM.of (by decide) (Nat.le_of_ble_eq_true rfl) (fun K hn ms ms' r hG X hK hd ho => ?_)
  subst hG
  have X : gX K cX10_end 2 "BitingDoorsModel" "end" (some .boolean) 0 0 := X
  show V K 2 (mkM am hn ms) 0 [(0, .ref am), (1, .int p1)] []
  unfold M_X10_end at hd
  refine v_aload_n X dX10_end_0 0 0 rfl rfl ?_
  refine v_iconst (v := 0) X dX10_end_1 (by decide) ?_
  refine t_putI X hd rfl fp_X10_108 dX10_end_2 (fun ms hd => ?_)
  refine v_iload_n X dX10_end_5 1 1 rfl rfl ?_
  refine v_if_lt (tgt := 17) X dX10_end_6 (by decide) (fun q => ?_) (fun q => ?_)
  · have hd := Tite_t q hd
    refine v_iconst (v := 0) X dX10_end_17 (by decide) ?_
    exact t_zret X hK hd rfl ho dX10_end_18
  · have hd := Tite_f q hd
    refine v_iload_n X dX10_end_9 1 1 rfl rfl ?_
    refine v_aload_n X dX10_end_10 0 0 rfl rfl ?_
    refine t_getI X hd rfl fl_X10_112 dX10_end_11 (fun v1 hd => ?_)
    refine v_icmp_le (tgt := 19) X dX10_end_14 (by decide) (fun q => ?_) (fun q => ?_)
    · have hd := Tite_t q hd
      refine v_aload_n X dX10_end_19 0 0 rfl rfl ?_
      refine v_iload_n X dX10_end_20 1 1 rfl rfl ?_
      refine t_putI X hd rfl fp_X10_112 dX10_end_21 (fun ms hd => ?_)
      refine v_iconst (v := 1) X dX10_end_24 (by decide) ?_
      exact t_zret X hK hd rfl ho dX10_end_25
    · have hd := Tite_f q hd
      refine v_iconst (v := 0) X dX10_end_17 (by decide) ?_
      exact t_zret X hK hd rfl ho dX10_end_18
def dkwX10_countWays_3 : List UInt8 := [132, 2, 1, 167, 255, 204, 177]
abbrev dktX10_countWays_3 : List UInt8 := dkwX10_countWays_3 ++ []
def dkwX10_countWays_2 : List UInt8 := [182, 1, 53, 154, 0, 6, 167, 0, 17, 42, 180, 0, 54, 27, 28, 79, 42, 27, 4, 96, 182, 1, 71]
abbrev dktX10_countWays_2 : List UInt8 := dkwX10_countWays_2 ++ dktX10_countWays_3
def dkwX10_countWays_1 : List UInt8 := [162, 0, 53, 42, 180, 0, 51, 27, 46, 28, 184, 0, 231, 153, 0, 34, 42, 27, 28, 4, 27, 120, 4, 100]
abbrev dktX10_countWays_1 : List UInt8 := dkwX10_countWays_1 ++ dktX10_countWays_2
def dkwX10_countWays_0 : List UInt8 := [27, 42, 182, 0, 211, 160, 0, 14, 42, 89, 180, 1, 68, 4, 96, 181, 1, 68, 177, 3, 61, 28, 7]
abbrev dktX10_countWays_0 : List UInt8 := dkwX10_countWays_0 ++ dktX10_countWays_1
theorem dksX10_countWays_0 : cX10_countWays.data.toList.drop 0 = dktX10_countWays_0 := by decide +kernel
theorem dksX10_countWays_1 : cX10_countWays.data.toList.drop 23 = dktX10_countWays_1 := dk_seg dksX10_countWays_0 23 rfl rfl
theorem dksX10_countWays_2 : cX10_countWays.data.toList.drop 47 = dktX10_countWays_2 := dk_seg dksX10_countWays_1 24 rfl rfl
theorem dksX10_countWays_3 : cX10_countWays.data.toList.drop 70 = dktX10_countWays_3 := dk_seg dksX10_countWays_2 23 rfl rfl
theorem dX10_countWays_0 : decode cX10_countWays 0 = .ok (.iload_n 1, 1) := dk_27 (dk_at dksX10_countWays_0 0 rfl rfl)
theorem dX10_countWays_1 : decode cX10_countWays 1 = .ok (.aload_n 0, 1) := dk_42 (dk_at dksX10_countWays_0 1 rfl rfl)
theorem dX10_countWays_2 : decode cX10_countWays 2 = .ok (.invokevirtual 211, 3) := dk_182 0 211 (dk_at dksX10_countWays_0 2 rfl rfl)
theorem dX10_countWays_5 : decode cX10_countWays 5 = .ok (.if_icmp .ne 14, 3) := dk_160 0 14 (dk_at dksX10_countWays_0 5 rfl rfl)
theorem dX10_countWays_8 : decode cX10_countWays 8 = .ok (.aload_n 0, 1) := dk_42 (dk_at dksX10_countWays_0 8 rfl rfl)
theorem dX10_countWays_9 : decode cX10_countWays 9 = .ok (.dup, 1) := dk_89 (dk_at dksX10_countWays_0 9 rfl rfl)
theorem dX10_countWays_10 : decode cX10_countWays 10 = .ok (.getfield 324, 3) := dk_180 1 68 (dk_at dksX10_countWays_0 10 rfl rfl)
theorem dX10_countWays_13 : decode cX10_countWays 13 = .ok (.iconst 1, 1) := dk_4 (dk_at dksX10_countWays_0 13 rfl rfl)
theorem dX10_countWays_14 : decode cX10_countWays 14 = .ok (.iadd, 1) := dk_96 (dk_at dksX10_countWays_0 14 rfl rfl)
theorem dX10_countWays_15 : decode cX10_countWays 15 = .ok (.putfield 324, 3) := dk_181 1 68 (dk_at dksX10_countWays_0 15 rfl rfl)
theorem dX10_countWays_18 : decode cX10_countWays 18 = .ok (.return_, 1) := dk_177 (dk_at dksX10_countWays_0 18 rfl rfl)
theorem dX10_countWays_19 : decode cX10_countWays 19 = .ok (.iconst 0, 1) := dk_3 (dk_at dksX10_countWays_0 19 rfl rfl)
theorem dX10_countWays_20 : decode cX10_countWays 20 = .ok (.istore_n 2, 1) := dk_61 (dk_at dksX10_countWays_0 20 rfl rfl)
theorem dX10_countWays_21 : decode cX10_countWays 21 = .ok (.iload_n 2, 1) := dk_28 (dk_at dksX10_countWays_0 21 rfl rfl)
theorem dX10_countWays_22 : decode cX10_countWays 22 = .ok (.iconst 4, 1) := dk_7 (dk_at dksX10_countWays_0 22 rfl rfl)
theorem dX10_countWays_23 : decode cX10_countWays 23 = .ok (.if_icmp .ge 53, 3) := dk_162 0 53 (dk_at dksX10_countWays_1 0 rfl rfl)
theorem dX10_countWays_26 : decode cX10_countWays 26 = .ok (.aload_n 0, 1) := dk_42 (dk_at dksX10_countWays_1 3 rfl rfl)
theorem dX10_countWays_27 : decode cX10_countWays 27 = .ok (.getfield 51, 3) := dk_180 0 51 (dk_at dksX10_countWays_1 4 rfl rfl)
theorem dX10_countWays_30 : decode cX10_countWays 30 = .ok (.iload_n 1, 1) := dk_27 (dk_at dksX10_countWays_1 7 rfl rfl)
theorem dX10_countWays_31 : decode cX10_countWays 31 = .ok (.iaload, 1) := dk_46 (dk_at dksX10_countWays_1 8 rfl rfl)
theorem dX10_countWays_32 : decode cX10_countWays 32 = .ok (.iload_n 2, 1) := dk_28 (dk_at dksX10_countWays_1 9 rfl rfl)
theorem dX10_countWays_33 : decode cX10_countWays 33 = .ok (.invokestatic 231, 3) := dk_184 0 231 (dk_at dksX10_countWays_1 10 rfl rfl)
theorem dX10_countWays_36 : decode cX10_countWays 36 = .ok (.ifCond .eq 34, 3) := dk_153 0 34 (dk_at dksX10_countWays_1 13 rfl rfl)
theorem dX10_countWays_39 : decode cX10_countWays 39 = .ok (.aload_n 0, 1) := dk_42 (dk_at dksX10_countWays_1 16 rfl rfl)
theorem dX10_countWays_40 : decode cX10_countWays 40 = .ok (.iload_n 1, 1) := dk_27 (dk_at dksX10_countWays_1 17 rfl rfl)
theorem dX10_countWays_41 : decode cX10_countWays 41 = .ok (.iload_n 2, 1) := dk_28 (dk_at dksX10_countWays_1 18 rfl rfl)
theorem dX10_countWays_42 : decode cX10_countWays 42 = .ok (.iconst 1, 1) := dk_4 (dk_at dksX10_countWays_1 19 rfl rfl)
theorem dX10_countWays_43 : decode cX10_countWays 43 = .ok (.iload_n 1, 1) := dk_27 (dk_at dksX10_countWays_1 20 rfl rfl)
theorem dX10_countWays_44 : decode cX10_countWays 44 = .ok (.ishl, 1) := dk_120 (dk_at dksX10_countWays_1 21 rfl rfl)
theorem dX10_countWays_45 : decode cX10_countWays 45 = .ok (.iconst 1, 1) := dk_4 (dk_at dksX10_countWays_1 22 rfl rfl)
theorem dX10_countWays_46 : decode cX10_countWays 46 = .ok (.isub, 1) := dk_100 (dk_at dksX10_countWays_1 23 rfl rfl)
theorem dX10_countWays_47 : decode cX10_countWays 47 = .ok (.invokevirtual 309, 3) := dk_182 1 53 (dk_at dksX10_countWays_2 0 rfl rfl)
theorem dX10_countWays_50 : decode cX10_countWays 50 = .ok (.ifCond .ne 6, 3) := dk_154 0 6 (dk_at dksX10_countWays_2 3 rfl rfl)
theorem dX10_countWays_53 : decode cX10_countWays 53 = .ok (.goto 17, 3) := dk_167 0 17 (dk_at dksX10_countWays_2 6 rfl rfl)
theorem dX10_countWays_56 : decode cX10_countWays 56 = .ok (.aload_n 0, 1) := dk_42 (dk_at dksX10_countWays_2 9 rfl rfl)
theorem dX10_countWays_57 : decode cX10_countWays 57 = .ok (.getfield 54, 3) := dk_180 0 54 (dk_at dksX10_countWays_2 10 rfl rfl)
theorem dX10_countWays_60 : decode cX10_countWays 60 = .ok (.iload_n 1, 1) := dk_27 (dk_at dksX10_countWays_2 13 rfl rfl)
theorem dX10_countWays_61 : decode cX10_countWays 61 = .ok (.iload_n 2, 1) := dk_28 (dk_at dksX10_countWays_2 14 rfl rfl)
theorem dX10_countWays_62 : decode cX10_countWays 62 = .ok (.iastore, 1) := dk_79 (dk_at dksX10_countWays_2 15 rfl rfl)
theorem dX10_countWays_63 : decode cX10_countWays 63 = .ok (.aload_n 0, 1) := dk_42 (dk_at dksX10_countWays_2 16 rfl rfl)
theorem dX10_countWays_64 : decode cX10_countWays 64 = .ok (.iload_n 1, 1) := dk_27 (dk_at dksX10_countWays_2 17 rfl rfl)
theorem dX10_countWays_65 : decode cX10_countWays 65 = .ok (.iconst 1, 1) := dk_4 (dk_at dksX10_countWays_2 18 rfl rfl)
theorem dX10_countWays_66 : decode cX10_countWays 66 = .ok (.iadd, 1) := dk_96 (dk_at dksX10_countWays_2 19 rfl rfl)
theorem dX10_countWays_67 : decode cX10_countWays 67 = .ok (.invokevirtual 327, 3) := dk_182 1 71 (dk_at dksX10_countWays_2 20 rfl rfl)
theorem dX10_countWays_70 : decode cX10_countWays 70 = .ok (.iinc 2 1, 3) := dk_132 2 1 (dk_at dksX10_countWays_3 0 rfl rfl)
theorem dX10_countWays_73 : decode cX10_countWays 73 = .ok (.goto (-52), 3) := dk_167 255 204 (dk_at dksX10_countWays_3 3 rfl rfl)
theorem dX10_countWays_76 : decode cX10_countWays 76 = .ok (.return_, 1) := dk_177 (dk_at dksX10_countWays_3 6 rfl rfl)
theorem fl_X10_324 : gFl "BitingDoorsModel" 324 [8] 33 := by
  intro args s hts hN ci hc
  simp only [List.mem_cons, List.not_mem_nil, or_false] at hc
  subst hc
  exact ⟨RX10, TX10, 64, "BitingDoorsModel", gCl_X10, in_X10, by decide, Or.inl (hts _ q1683), fun _ h => h⟩
theorem fp_X10_324 {nm : String} : gFp "BitingDoorsModel" nm 324 [8] 33 .int := by
  intro args s hts hN ci hc
  simp only [List.mem_cons, List.not_mem_nil, or_false] at hc
  subst hc
  exact ⟨RX10, TX10, 64, "BitingDoorsModel", gCl_X10, in_X10, by decide, Or.inl ⟨rfl, Or.inl (hts _ q1683)⟩, fun _ h => h, rfl, fun D tys hK => gap_X10 hts hK⟩
theorem dn_X10_countWays : yX10_countWays.cls ≠ "java/lang/invoke/MethodHandle" ∧ yX10_countWays.cls ≠ "java/lang/invoke/VarHandle" ∧ (parseMethodDescriptor yX10_countWays.desc).map (fun d => d.parameters.length) = some 1 := by decide +kernel
noncomputable def B_X10_countWays (Rc : Int32 → TM Unit) (p1 : Int32) : TM Unit := TM.bind (M_X10_doors) (fun v1 => if p1 = v1 then TM.bind (tI 33) (fun v12 => TM.bind (sI 33 (v12 + 1)) (fun _ => TM.pure ())) else TM.bind (TM.loop (S := Int32) (E := Unit) (fun s2 => if 4 ≤ s2 then TM.pure (Sum.inr ()) else TM.bind (tA 29 10 p1) (fun v6 => TM.bind (M_X10_has v6 s2) (fun v7 => TM.bind ((cond v7 (TM.bind (M_X10_mayHang p1 s2 ((1 <<< (p1 &&& 31)) - 1)) (fun v10 => cond v10 (TM.bind (sA 30 10 p1 s2) (fun _ => TM.bind (Rc (p1 + 1)) (fun v11 => TM.pure ()))) (TM.pure ()))) (TM.pure ()) : TM (Unit))) (fun u8 => TM.lv (s2 + 1) (fun v9 => TM.pure (Sum.inl v9)))))) 0) (fun e5 => TM.pure ()))
noncomputable def M_X10_countWays : Nat → Int32 → TM Unit
  | 0 => fun _ => TM.fail
  | n + 1 => B_X10_countWays (M_X10_countWays n)
set_option maxHeartbeats 4000000 in
theorem ct_X10_countWays (G : gG) (am n : Nat) : ∀ (p1 : Int32), gCtM G am yX10_countWays cX10_countWays 3 none (2 + n) (48 + n * 22) [.ref am, .int p1] (M_X10_countWays n p1) (fun _ : Unit => none) := by
  induction n with
  | zero =>
    intro p1 hn ms r m2 hf
    cases hf
  | succ n ih =>
    intro p1
    refine gCtM.of (by decide) (Nat.le_of_ble_eq_true rfl) (fun K hn ms ms' r hG X hK hd ho => ?_)
    subst hG
    have X : gX K cX10_countWays 3 "BitingDoorsModel" "countWays" none (2 + (n + 1)) (48 + (n + 1) * 22) := X
    show V K 3 (mkM am hn ms) 0 [(0, .ref am), (1, .int p1)] []
    have hd : B_X10_countWays (M_X10_countWays n) p1 ms = some (r, ms') := hd
    unfold B_X10_countWays at hd
    refine v_iload_n X dX10_countWays_0 1 1 rfl rfl ?_
    refine v_aload_n X dX10_countWays_1 0 0 rfl rfl ?_
    refine t_callV X hK hd (ct_X10_doors _ am) (lw_V q1986 q1988 qs57 q120 q1989) ⟨rfl, dn_X10_doors⟩ rfl ⟨by omega, by omega⟩ rfl (Nat.le_of_ble_eq_true rfl) dX10_countWays_2 (fun v1 ms hd => ?_)
    show V K 3 (mkM am hn ms) 5 [(0, .ref am), (1, .int p1)] [.int v1, .int p1]
    refine v_icmp_ne (tgt := 19) X dX10_countWays_5 (by decide) (fun q => ?_) (fun q => ?_)
    · have hd := Tite_f q hd
      refine v_iconst (v := 0) X dX10_countWays_19 (by decide) ?_
      refine v_istore_n (lv2 := [(2, .int 0), (0, .ref am), (1, .int p1)]) X dX10_countWays_20 2 rfl (by decide) rfl ?_
      obtain ⟨e5, m1, hd, hd2⟩ := TM.bind_some hd
      have KX : V K 3 (mkM am hn m1) 76 [] [] := by
        clear hd
        have hd := hd2
        exact t_vret X hK hd ho dX10_countWays_76
      clear hd2
      refine v_loc [1, 2, 0] rfl ?_
      refine Tloop_ind hd (fun (s2 : Int32) m => V K 3 (mkM am hn m) 21 [(0, .ref am), (1, .int p1), (2, .int s2)] []) (fun s2 ms x m2 hd ih3 ho4 => ?_)
      refine v_iload_n X dX10_countWays_21 2 2 rfl rfl ?_
      refine v_iconst (v := 4) X dX10_countWays_22 (by decide) ?_
      refine v_icmp_ge (tgt := 76) X dX10_countWays_23 (by decide) (fun q => ?_) (fun q => ?_)
      · have hd := Tite_t q hd
        exact v_loc [] rfl (t_at (P := fun (e5 : Unit) m => V K 3 (mkM am hn m) 76 [] []) (Tlp_out hd ho4) KX)
      · have hd := Tite_f q hd
        refine v_aload_n X dX10_countWays_26 0 0 rfl rfl ?_
        refine t_getA (j := 13) X rfl fl_X10_51 dX10_countWays_27 ?_
        refine v_iload_n X dX10_countWays_30 1 1 rfl rfl ?_
        refine t_iald (j := 13) X hd rfl dX10_countWays_31 (fun v6 hd => ?_)
        refine v_iload_n X dX10_countWays_32 2 2 rfl rfl ?_
        refine t_callS X hK hd (ct_X10_has _ am v6 s2) (lw_S q1947 q1948 q120 q1949) dn_X10_has rfl ⟨by omega, by omega⟩ rfl (Nat.le_of_ble_eq_true rfl) dX10_countWays_33 (fun v7 ms hd => ?_)
        show V K 3 (mkM am hn ms) 36 [(0, .ref am), (1, .int p1), (2, .int s2)] [.int (b2i v7)]
        obtain ⟨u8, m1, hd, hd2⟩ := TM.bind_some hd
        have KJ : V K 3 (mkM am hn m1) 70 [(0, .ref am), (1, .int p1), (2, .int s2)] [] := by
          clear hd
          have hd := hd2
          refine t_iincL (lv2 := fun v9 => [(2, .int v9), (0, .ref am), (1, .int p1)]) X hd dX10_countWays_70 2 rfl (by decide : Int32.ofInt 1 = 1) (by decide) (fun v9 => rfl) (fun v9 hd => ?_)
          refine v_goto (tgt := 21) X dX10_countWays_73 (by decide) ?_
          exact v_loc [1, 2, 0] rfl (Tlp_in (P := fun (s2 : Int32) m => V K 3 (mkM am hn m) 21 [(0, .ref am), (1, .int p1), (2, .int s2)] []) hd ih3)
        clear hd2
        refine v_ifZ_eq (tgt := 70) X dX10_countWays_36 (by decide) (fun q => ?_) (fun q => ?_)
        · have hd := Tcnd_f q hd
          exact v_loc [0, 1, 2] rfl (t_at (P := fun (u8 : Unit) m => V K 3 (mkM am hn m) 70 [(0, .ref am), (1, .int p1), (2, .int s2)] []) hd KJ)
        · have hd := Tcnd_t q hd
          refine v_aload_n X dX10_countWays_39 0 0 rfl rfl ?_
          refine v_iload_n X dX10_countWays_40 1 1 rfl rfl ?_
          refine v_iload_n X dX10_countWays_41 2 2 rfl rfl ?_
          refine v_iconst (v := 1) X dX10_countWays_42 (by decide) ?_
          refine v_iload_n X dX10_countWays_43 1 1 rfl rfl ?_
          refine v_ishl X dX10_countWays_44 ?_
          refine v_iconst (v := 1) X dX10_countWays_45 (by decide) ?_
          refine v_isub X dX10_countWays_46 ?_
          refine t_callV X hK hd (ct_X10_mayHang _ am p1 s2 ((1 <<< (p1 &&& 31)) - 1)) (lw_V q2065 q2067 qs70 q120 q2068) ⟨rfl, dn_X10_mayHang⟩ rfl ⟨by omega, by omega⟩ rfl (Nat.le_of_ble_eq_true rfl) dX10_countWays_47 (fun v10 ms hd => ?_)
          show V K 3 (mkM am hn ms) 50 [(0, .ref am), (1, .int p1), (2, .int s2)] [.int (b2i v10)]
          refine v_ifZ_ne (tgt := 56) X dX10_countWays_50 (by decide) (fun q => ?_) (fun q => ?_)
          · have hd := Tcnd_t q hd
            refine v_aload_n X dX10_countWays_56 0 0 rfl rfl ?_
            refine t_getA (j := 14) X rfl fl_X10_54 dX10_countWays_57 ?_
            refine v_iload_n X dX10_countWays_60 1 1 rfl rfl ?_
            refine v_iload_n X dX10_countWays_61 2 2 rfl rfl ?_
            refine t_iast (j := 14) X hd rfl dX10_countWays_62 (fun ms hd => ?_)
            refine v_aload_n X dX10_countWays_63 0 0 rfl rfl ?_
            refine v_iload_n X dX10_countWays_64 1 1 rfl rfl ?_
            refine v_iconst (v := 1) X dX10_countWays_65 (by decide) ?_
            refine v_iadd X dX10_countWays_66 ?_
            refine t_callV X hK hd (ih (p1 + 1)) (lw_V q2089 q2091 qs72 q120 q2092) ⟨rfl, dn_X10_countWays⟩ rfl ⟨by omega, by omega⟩ rfl (Nat.le_of_ble_eq_true rfl) dX10_countWays_67 (fun v11 ms hd => ?_)
            show V K 3 (mkM am hn ms) 70 [(0, .ref am), (1, .int p1), (2, .int s2)] []
            exact v_loc [0, 1, 2] rfl (t_at (P := fun (u8 : Unit) m => V K 3 (mkM am hn m) 70 [(0, .ref am), (1, .int p1), (2, .int s2)] []) hd KJ)
          · have hd := Tcnd_f q hd
            refine v_goto (tgt := 70) X dX10_countWays_53 (by decide) ?_
            exact v_loc [0, 1, 2] rfl (t_at (P := fun (u8 : Unit) m => V K 3 (mkM am hn m) 70 [(0, .ref am), (1, .int p1), (2, .int s2)] []) hd KJ)
    · have hd := Tite_t q hd
      refine v_aload_n X dX10_countWays_8 0 0 rfl rfl ?_
      refine v_dup X dX10_countWays_9 rfl ?_
      refine t_getI X hd rfl fl_X10_324 dX10_countWays_10 (fun v12 hd => ?_)
      refine v_iconst (v := 1) X dX10_countWays_13 (by decide) ?_
      refine v_iadd X dX10_countWays_14 ?_
      refine t_putI X hd rfl fp_X10_324 dX10_countWays_15 (fun ms hd => ?_)
      exact t_vret X hK hd ho dX10_countWays_18
def dkwX10_ways_0 : List UInt8 := [42, 3, 181, 0, 108, 42, 182, 1, 36, 42, 3, 181, 1, 68, 42, 3, 182, 1, 71, 42, 180, 1, 68, 172]
abbrev dktX10_ways_0 : List UInt8 := dkwX10_ways_0 ++ []
theorem dksX10_ways_0 : cX10_ways.data.toList.drop 0 = dktX10_ways_0 := by decide +kernel
theorem dX10_ways_0 : decode cX10_ways 0 = .ok (.aload_n 0, 1) := dk_42 (dk_at dksX10_ways_0 0 rfl rfl)
theorem dX10_ways_1 : decode cX10_ways 1 = .ok (.iconst 0, 1) := dk_3 (dk_at dksX10_ways_0 1 rfl rfl)
theorem dX10_ways_2 : decode cX10_ways 2 = .ok (.putfield 108, 3) := dk_181 0 108 (dk_at dksX10_ways_0 2 rfl rfl)
theorem dX10_ways_5 : decode cX10_ways 5 = .ok (.aload_n 0, 1) := dk_42 (dk_at dksX10_ways_0 5 rfl rfl)
theorem dX10_ways_6 : decode cX10_ways 6 = .ok (.invokevirtual 292, 3) := dk_182 1 36 (dk_at dksX10_ways_0 6 rfl rfl)
theorem dX10_ways_9 : decode cX10_ways 9 = .ok (.aload_n 0, 1) := dk_42 (dk_at dksX10_ways_0 9 rfl rfl)
theorem dX10_ways_10 : decode cX10_ways 10 = .ok (.iconst 0, 1) := dk_3 (dk_at dksX10_ways_0 10 rfl rfl)
theorem dX10_ways_11 : decode cX10_ways 11 = .ok (.putfield 324, 3) := dk_181 1 68 (dk_at dksX10_ways_0 11 rfl rfl)
theorem dX10_ways_14 : decode cX10_ways 14 = .ok (.aload_n 0, 1) := dk_42 (dk_at dksX10_ways_0 14 rfl rfl)
theorem dX10_ways_15 : decode cX10_ways 15 = .ok (.iconst 0, 1) := dk_3 (dk_at dksX10_ways_0 15 rfl rfl)
theorem dX10_ways_16 : decode cX10_ways 16 = .ok (.invokevirtual 327, 3) := dk_182 1 71 (dk_at dksX10_ways_0 16 rfl rfl)
theorem dX10_ways_19 : decode cX10_ways 19 = .ok (.aload_n 0, 1) := dk_42 (dk_at dksX10_ways_0 19 rfl rfl)
theorem dX10_ways_20 : decode cX10_ways 20 = .ok (.getfield 324, 3) := dk_180 1 68 (dk_at dksX10_ways_0 20 rfl rfl)
theorem dX10_ways_23 : decode cX10_ways 23 = .ok (.ireturn, 1) := dk_172 (dk_at dksX10_ways_0 23 rfl rfl)
theorem dn_X10_ways : yX10_ways.cls ≠ "java/lang/invoke/MethodHandle" ∧ yX10_ways.cls ≠ "java/lang/invoke/VarHandle" ∧ (parseMethodDescriptor yX10_ways.desc).map (fun d => d.parameters.length) = some 0 := by decide +kernel
noncomputable def M_X10_ways  : TM Int32 := TM.bind (sI 0 0) (fun _ => TM.bind (M_X10_laySwept) (fun v1 => TM.bind (sI 33 0) (fun _ => TM.bind (M_X10_countWays 12 0) (fun v2 => TM.bind (tI 33) (fun v3 => TM.pure v3)))))
set_option maxHeartbeats 4000000 in
theorem ct_X10_ways (G : gG) (am : Nat)  : gCtM G am yX10_ways cX10_ways 1 (some .int) 15 334 [.ref am] (M_X10_ways) (fun x : Int32 => some (.int x)) := by
  refine gCtM.of (by decide) (Nat.le_of_ble_eq_true rfl) (fun K hn ms ms' r hG X hK hd ho => ?_)
  subst hG
  have X : gX K cX10_ways 1 "BitingDoorsModel" "ways" (some .int) 15 334 := X
  show V K 1 (mkM am hn ms) 0 [(0, .ref am)] []
  unfold M_X10_ways at hd
  refine v_aload_n X dX10_ways_0 0 0 rfl rfl ?_
  refine v_iconst (v := 0) X dX10_ways_1 (by decide) ?_
  refine t_putI X hd rfl fp_X10_108 dX10_ways_2 (fun ms hd => ?_)
  refine v_aload_n X dX10_ways_5 0 0 rfl rfl ?_
  refine t_callV X hK hd (ct_X10_laySwept _ am) (lw_V q2030 q2032 qs64 q120 q2033) ⟨rfl, dn_X10_laySwept⟩ rfl ⟨by decide, by decide⟩ rfl (Nat.le_of_ble_eq_true rfl) dX10_ways_6 (fun v1 ms hd => ?_)
  show V K 1 (mkM am hn ms) 9 [(0, .ref am)] []
  refine v_aload_n X dX10_ways_9 0 0 rfl rfl ?_
  refine v_iconst (v := 0) X dX10_ways_10 (by decide) ?_
  refine t_putI X hd rfl fp_X10_324 dX10_ways_11 (fun ms hd => ?_)
  refine v_aload_n X dX10_ways_14 0 0 rfl rfl ?_
  refine v_iconst (v := 0) X dX10_ways_15 (by decide) ?_
  refine t_callV X hK hd (ct_X10_countWays _ am 12 0) (lw_V q2089 q2091 qs72 q120 q2092) ⟨rfl, dn_X10_countWays⟩ rfl ⟨by decide, by decide⟩ rfl (Nat.le_of_ble_eq_true rfl) dX10_ways_16 (fun v2 ms hd => ?_)
  show V K 1 (mkM am hn ms) 19 [(0, .ref am)] []
  refine v_aload_n X dX10_ways_19 0 0 rfl rfl ?_
  refine t_getI X hd rfl fl_X10_324 dX10_ways_20 (fun v3 hd => ?_)
  exact t_iret X hK hd ho dX10_ways_23
def dkwX10_live_1 : List UInt8 := [181, 0, 255, 27, 172]
abbrev dktX10_live_1 : List UInt8 := dkwX10_live_1 ++ []
def dkwX10_live_0 : List UInt8 := [42, 3, 181, 0, 108, 42, 182, 1, 152, 60, 42, 182, 1, 134, 42, 89, 180, 0, 255, 42, 180, 1, 143, 96]
abbrev dktX10_live_0 : List UInt8 := dkwX10_live_0 ++ dktX10_live_1
theorem dksX10_live_0 : cX10_live.data.toList.drop 0 = dktX10_live_0 := by decide +kernel
theorem dksX10_live_1 : cX10_live.data.toList.drop 24 = dktX10_live_1 := dk_seg dksX10_live_0 24 rfl rfl
theorem dX10_live_0 : decode cX10_live 0 = .ok (.aload_n 0, 1) := dk_42 (dk_at dksX10_live_0 0 rfl rfl)
theorem dX10_live_1 : decode cX10_live 1 = .ok (.iconst 0, 1) := dk_3 (dk_at dksX10_live_0 1 rfl rfl)
theorem dX10_live_2 : decode cX10_live 2 = .ok (.putfield 108, 3) := dk_181 0 108 (dk_at dksX10_live_0 2 rfl rfl)
theorem dX10_live_5 : decode cX10_live 5 = .ok (.aload_n 0, 1) := dk_42 (dk_at dksX10_live_0 5 rfl rfl)
theorem dX10_live_6 : decode cX10_live 6 = .ok (.invokevirtual 408, 3) := dk_182 1 152 (dk_at dksX10_live_0 6 rfl rfl)
theorem dX10_live_9 : decode cX10_live 9 = .ok (.istore_n 1, 1) := dk_60 (dk_at dksX10_live_0 9 rfl rfl)
theorem dX10_live_10 : decode cX10_live 10 = .ok (.aload_n 0, 1) := dk_42 (dk_at dksX10_live_0 10 rfl rfl)
theorem dX10_live_11 : decode cX10_live 11 = .ok (.invokevirtual 390, 3) := dk_182 1 134 (dk_at dksX10_live_0 11 rfl rfl)
theorem dX10_live_14 : decode cX10_live 14 = .ok (.aload_n 0, 1) := dk_42 (dk_at dksX10_live_0 14 rfl rfl)
theorem dX10_live_15 : decode cX10_live 15 = .ok (.dup, 1) := dk_89 (dk_at dksX10_live_0 15 rfl rfl)
theorem dX10_live_16 : decode cX10_live 16 = .ok (.getfield 255, 3) := dk_180 0 255 (dk_at dksX10_live_0 16 rfl rfl)
theorem dX10_live_19 : decode cX10_live 19 = .ok (.aload_n 0, 1) := dk_42 (dk_at dksX10_live_0 19 rfl rfl)
theorem dX10_live_20 : decode cX10_live 20 = .ok (.getfield 399, 3) := dk_180 1 143 (dk_at dksX10_live_0 20 rfl rfl)
theorem dX10_live_23 : decode cX10_live 23 = .ok (.iadd, 1) := dk_96 (dk_at dksX10_live_0 23 rfl rfl)
theorem dX10_live_24 : decode cX10_live 24 = .ok (.putfield 255, 3) := dk_181 0 255 (dk_at dksX10_live_1 0 rfl rfl)
theorem dX10_live_27 : decode cX10_live 27 = .ok (.iload_n 1, 1) := dk_27 (dk_at dksX10_live_1 3 rfl rfl)
theorem dX10_live_28 : decode cX10_live 28 = .ok (.ireturn, 1) := dk_172 (dk_at dksX10_live_1 4 rfl rfl)
theorem dn_X10_live : yX10_live.cls ≠ "java/lang/invoke/MethodHandle" ∧ yX10_live.cls ≠ "java/lang/invoke/VarHandle" ∧ (parseMethodDescriptor yX10_live.desc).map (fun d => d.parameters.length) = some 0 := by decide +kernel
noncomputable def M_X10_live  : TM Int32 := TM.bind (sI 0 0) (fun _ => TM.bind (M_X10_doDay) (fun v1 => TM.bind (M_X10_keepNow) (fun v2 => TM.bind (tI 23) (fun v3 => TM.bind (tI 49) (fun v4 => TM.bind (sI 23 (v3 + v4)) (fun _ => TM.pure v1))))))
set_option maxHeartbeats 4000000 in
theorem ct_X10_live (G : gG) (am : Nat)  : gCtM G am yX10_live cX10_live 2 (some .int) 8 201 [.ref am] (M_X10_live) (fun x : Int32 => some (.int x)) := by
  refine gCtM.of (by decide) (Nat.le_of_ble_eq_true rfl) (fun K hn ms ms' r hG X hK hd ho => ?_)
  subst hG
  have X : gX K cX10_live 2 "BitingDoorsModel" "live" (some .int) 8 201 := X
  show V K 2 (mkM am hn ms) 0 [(0, .ref am)] []
  unfold M_X10_live at hd
  refine v_aload_n X dX10_live_0 0 0 rfl rfl ?_
  refine v_iconst (v := 0) X dX10_live_1 (by decide) ?_
  refine t_putI X hd rfl fp_X10_108 dX10_live_2 (fun ms hd => ?_)
  refine v_aload_n X dX10_live_5 0 0 rfl rfl ?_
  refine t_callV X hK hd (ct_X10_doDay _ am) (lw_V q2212 q2214 qs89 q120 q2215) ⟨rfl, dn_X10_doDay⟩ rfl ⟨by decide, by decide⟩ rfl (Nat.le_of_ble_eq_true rfl) dX10_live_6 (fun v1 ms hd => ?_)
  show V K 2 (mkM am hn ms) 9 [(0, .ref am)] [.int v1]
  refine v_istore_n (lv2 := [(1, .int v1), (0, .ref am)]) X dX10_live_9 1 rfl (by decide) rfl ?_
  refine v_aload_n X dX10_live_10 1 0 rfl rfl ?_
  refine t_callV X hK hd (ct_X10_keepNow _ am) (lw_V q2192 q2194 qs87 q120 q2195) ⟨rfl, dn_X10_keepNow⟩ rfl ⟨by decide, by decide⟩ rfl (Nat.le_of_ble_eq_true rfl) dX10_live_11 (fun v2 ms hd => ?_)
  show V K 2 (mkM am hn ms) 14 [(1, .int v1), (0, .ref am)] []
  refine v_aload_n X dX10_live_14 1 0 rfl rfl ?_
  refine v_dup X dX10_live_15 rfl ?_
  refine t_getI X hd rfl fl_X10_255 dX10_live_16 (fun v3 hd => ?_)
  refine v_aload_n X dX10_live_19 1 0 rfl rfl ?_
  refine t_getI X hd rfl fl_X10_399 dX10_live_20 (fun v4 hd => ?_)
  refine v_iadd X dX10_live_23 ?_
  refine t_putI X hd rfl fp_X10_255 dX10_live_24 (fun ms hd => ?_)
  refine v_iload_n X dX10_live_27 0 1 rfl rfl ?_
  exact t_iret X hK hd ho dX10_live_28
def dkwX10_hung_1 : List UInt8 := [167, 0, 9, 42, 180, 0, 57, 27, 46, 172]
abbrev dktX10_hung_1 : List UInt8 := dkwX10_hung_1 ++ []
def dkwX10_hung_0 : List UInt8 := [42, 3, 181, 0, 108, 42, 4, 182, 1, 64, 2, 159, 0, 11, 42, 27, 182, 1, 5, 154, 0, 7, 2]
abbrev dktX10_hung_0 : List UInt8 := dkwX10_hung_0 ++ dktX10_hung_1
theorem dksX10_hung_0 : cX10_hung.data.toList.drop 0 = dktX10_hung_0 := by decide +kernel
theorem dksX10_hung_1 : cX10_hung.data.toList.drop 23 = dktX10_hung_1 := dk_seg dksX10_hung_0 23 rfl rfl
theorem dX10_hung_0 : decode cX10_hung 0 = .ok (.aload_n 0, 1) := dk_42 (dk_at dksX10_hung_0 0 rfl rfl)
theorem dX10_hung_1 : decode cX10_hung 1 = .ok (.iconst 0, 1) := dk_3 (dk_at dksX10_hung_0 1 rfl rfl)
theorem dX10_hung_2 : decode cX10_hung 2 = .ok (.putfield 108, 3) := dk_181 0 108 (dk_at dksX10_hung_0 2 rfl rfl)
theorem dX10_hung_5 : decode cX10_hung 5 = .ok (.aload_n 0, 1) := dk_42 (dk_at dksX10_hung_0 5 rfl rfl)
theorem dX10_hung_6 : decode cX10_hung 6 = .ok (.iconst 1, 1) := dk_4 (dk_at dksX10_hung_0 6 rfl rfl)
theorem dX10_hung_7 : decode cX10_hung 7 = .ok (.invokevirtual 320, 3) := dk_182 1 64 (dk_at dksX10_hung_0 7 rfl rfl)
theorem dX10_hung_10 : decode cX10_hung 10 = .ok (.iconst (-1), 1) := dk_2 (dk_at dksX10_hung_0 10 rfl rfl)
theorem dX10_hung_11 : decode cX10_hung 11 = .ok (.if_icmp .eq 11, 3) := dk_159 0 11 (dk_at dksX10_hung_0 11 rfl rfl)
theorem dX10_hung_14 : decode cX10_hung 14 = .ok (.aload_n 0, 1) := dk_42 (dk_at dksX10_hung_0 14 rfl rfl)
theorem dX10_hung_15 : decode cX10_hung 15 = .ok (.iload_n 1, 1) := dk_27 (dk_at dksX10_hung_0 15 rfl rfl)
theorem dX10_hung_16 : decode cX10_hung 16 = .ok (.invokevirtual 261, 3) := dk_182 1 5 (dk_at dksX10_hung_0 16 rfl rfl)
theorem dX10_hung_19 : decode cX10_hung 19 = .ok (.ifCond .ne 7, 3) := dk_154 0 7 (dk_at dksX10_hung_0 19 rfl rfl)
theorem dX10_hung_22 : decode cX10_hung 22 = .ok (.iconst (-1), 1) := dk_2 (dk_at dksX10_hung_0 22 rfl rfl)
theorem dX10_hung_23 : decode cX10_hung 23 = .ok (.goto 9, 3) := dk_167 0 9 (dk_at dksX10_hung_1 0 rfl rfl)
theorem dX10_hung_26 : decode cX10_hung 26 = .ok (.aload_n 0, 1) := dk_42 (dk_at dksX10_hung_1 3 rfl rfl)
theorem dX10_hung_27 : decode cX10_hung 27 = .ok (.getfield 57, 3) := dk_180 0 57 (dk_at dksX10_hung_1 4 rfl rfl)
theorem dX10_hung_30 : decode cX10_hung 30 = .ok (.iload_n 1, 1) := dk_27 (dk_at dksX10_hung_1 7 rfl rfl)
theorem dX10_hung_31 : decode cX10_hung 31 = .ok (.iaload, 1) := dk_46 (dk_at dksX10_hung_1 8 rfl rfl)
theorem dX10_hung_32 : decode cX10_hung 32 = .ok (.ireturn, 1) := dk_172 (dk_at dksX10_hung_1 9 rfl rfl)
theorem dn_X10_hung : yX10_hung.cls ≠ "java/lang/invoke/MethodHandle" ∧ yX10_hung.cls ≠ "java/lang/invoke/VarHandle" ∧ (parseMethodDescriptor yX10_hung.desc).map (fun d => d.parameters.length) = some 1 := by decide +kernel
noncomputable def M_X10_hung (p1 : Int32) : TM Int32 := TM.bind (sI 0 0) (fun _ => TM.bind (M_X10_hangAll true) (fun v1 => TM.bind ((if v1 = (-1) then TM.pure (-1) else TM.bind (M_X10_isDoor p1) (fun v3 => cond v3 (TM.bind (tA 31 10 p1) (fun v4 => TM.pure v4)) (TM.pure (-1))) : TM (Int32))) (fun u2 => TM.pure u2)))
set_option maxHeartbeats 4000000 in
theorem ct_X10_hung (G : gG) (am : Nat) (p1 : Int32) : gCtM G am yX10_hung cX10_hung 2 (some .int) 16 381 [.ref am, .int p1] (M_X10_hung p1) (fun x : Int32 => some (.int x)) := by
  refine gCtM.of (by decide) (Nat.le_of_ble_eq_true rfl) (fun K hn ms ms' r hG X hK hd ho => ?_)
  subst hG
  have X : gX K cX10_hung 2 "BitingDoorsModel" "hung" (some .int) 16 381 := X
  show V K 2 (mkM am hn ms) 0 [(0, .ref am), (1, .int p1)] []
  unfold M_X10_hung at hd
  refine v_aload_n X dX10_hung_0 0 0 rfl rfl ?_
  refine v_iconst (v := 0) X dX10_hung_1 (by decide) ?_
  refine t_putI X hd rfl fp_X10_108 dX10_hung_2 (fun ms hd => ?_)
  refine v_aload_n X dX10_hung_5 0 0 rfl rfl ?_
  refine v_iconst (v := 1) X dX10_hung_6 (by decide) ?_
  refine t_callV X hK hd (ct_X10_hangAll _ am true) (lw_V q2057 q2059 qs68 q120 q2060) ⟨rfl, dn_X10_hangAll⟩ rfl ⟨by decide, by decide⟩ rfl (Nat.le_of_ble_eq_true rfl) dX10_hung_7 (fun v1 ms hd => ?_)
  show V K 2 (mkM am hn ms) 10 [(0, .ref am), (1, .int p1)] [.int v1]
  refine v_iconst (v := (-1)) X dX10_hung_10 (by decide) ?_
  obtain ⟨u2, m1, hd, hd2⟩ := TM.bind_some hd
  have KJ : V K 2 (mkM am hn m1) 32 [] [.int u2] := by
    clear hd
    have hd := hd2
    exact t_iret X hK hd ho dX10_hung_32
  clear hd2
  refine v_icmp_eq (tgt := 22) X dX10_hung_11 (by decide) (fun q => ?_) (fun q => ?_)
  · have hd := Tite_t q hd
    refine v_iconst (v := (-1)) X dX10_hung_22 (by decide) ?_
    refine v_goto (tgt := 32) X dX10_hung_23 (by decide) ?_
    exact v_loc [] rfl (t_at (P := fun (u2 : Int32) m => V K 2 (mkM am hn m) 32 [] [.int u2]) hd KJ)
  · have hd := Tite_f q hd
    refine v_aload_n X dX10_hung_14 0 0 rfl rfl ?_
    refine v_iload_n X dX10_hung_15 1 1 rfl rfl ?_
    refine t_callV X hK hd (ct_X10_isDoor _ am p1) (lw_V q1982 q1984 qs56 q120 q1985) ⟨rfl, dn_X10_isDoor⟩ rfl ⟨by decide, by decide⟩ rfl (Nat.le_of_ble_eq_true rfl) dX10_hung_16 (fun v3 ms hd => ?_)
    show V K 2 (mkM am hn ms) 19 [(0, .ref am), (1, .int p1)] [.int (b2i v3)]
    refine v_ifZ_ne (tgt := 26) X dX10_hung_19 (by decide) (fun q => ?_) (fun q => ?_)
    · have hd := Tcnd_t q hd
      refine v_aload_n X dX10_hung_26 0 0 rfl rfl ?_
      refine t_getA (j := 15) X rfl fl_X10_57 dX10_hung_27 ?_
      refine v_iload_n X dX10_hung_30 1 1 rfl rfl ?_
      refine t_iald (j := 15) X hd rfl dX10_hung_31 (fun v4 hd => ?_)
      exact v_loc [] rfl (t_at (P := fun (u2 : Int32) m => V K 2 (mkM am hn m) 32 [] [.int u2]) hd KJ)
    · have hd := Tcnd_f q hd
      refine v_iconst (v := (-1)) X dX10_hung_22 (by decide) ?_
      refine v_goto (tgt := 32) X dX10_hung_23 (by decide) ?_
      exact v_loc [] rfl (t_at (P := fun (u2 : Int32) m => V K 2 (mkM am hn m) 32 [] [.int u2]) hd KJ)
def dkwX10_rehang_3 : List UInt8 := [27, 104, 96, 7, 96, 28, 79, 4, 172]
abbrev dktX10_rehang_3 : List UInt8 := dkwX10_rehang_3 ++ []
def dkwX10_rehang_2 : List UInt8 := [96, 46, 154, 0, 12, 42, 27, 28, 182, 1, 29, 154, 0, 5, 3, 172, 42, 180, 0, 13, 16, 110, 16, 10]
abbrev dktX10_rehang_2 : List UInt8 := dkwX10_rehang_2 ++ dktX10_rehang_3
def dkwX10_rehang_1 : List UInt8 := [153, 0, 38, 42, 27, 8, 182, 1, 11, 28, 184, 0, 231, 153, 0, 25, 42, 180, 0, 13, 17, 1, 74, 27]
abbrev dktX10_rehang_1 : List UInt8 := dkwX10_rehang_1 ++ dktX10_rehang_2
def dkwX10_rehang_0 : List UInt8 := [42, 3, 181, 0, 108, 42, 182, 0, 200, 42, 27, 182, 1, 5, 153, 0, 47, 28, 3, 6, 184, 0, 187]
abbrev dktX10_rehang_0 : List UInt8 := dkwX10_rehang_0 ++ dktX10_rehang_1
theorem dksX10_rehang_0 : cX10_rehang.data.toList.drop 0 = dktX10_rehang_0 := by decide +kernel
theorem dksX10_rehang_1 : cX10_rehang.data.toList.drop 23 = dktX10_rehang_1 := dk_seg dksX10_rehang_0 23 rfl rfl
theorem dksX10_rehang_2 : cX10_rehang.data.toList.drop 47 = dktX10_rehang_2 := dk_seg dksX10_rehang_1 24 rfl rfl
theorem dksX10_rehang_3 : cX10_rehang.data.toList.drop 71 = dktX10_rehang_3 := dk_seg dksX10_rehang_2 24 rfl rfl
theorem dX10_rehang_0 : decode cX10_rehang 0 = .ok (.aload_n 0, 1) := dk_42 (dk_at dksX10_rehang_0 0 rfl rfl)
theorem dX10_rehang_1 : decode cX10_rehang 1 = .ok (.iconst 0, 1) := dk_3 (dk_at dksX10_rehang_0 1 rfl rfl)
theorem dX10_rehang_2 : decode cX10_rehang 2 = .ok (.putfield 108, 3) := dk_181 0 108 (dk_at dksX10_rehang_0 2 rfl rfl)
theorem dX10_rehang_5 : decode cX10_rehang 5 = .ok (.aload_n 0, 1) := dk_42 (dk_at dksX10_rehang_0 5 rfl rfl)
theorem dX10_rehang_6 : decode cX10_rehang 6 = .ok (.invokevirtual 200, 3) := dk_182 0 200 (dk_at dksX10_rehang_0 6 rfl rfl)
theorem dX10_rehang_9 : decode cX10_rehang 9 = .ok (.aload_n 0, 1) := dk_42 (dk_at dksX10_rehang_0 9 rfl rfl)
theorem dX10_rehang_10 : decode cX10_rehang 10 = .ok (.iload_n 1, 1) := dk_27 (dk_at dksX10_rehang_0 10 rfl rfl)
theorem dX10_rehang_11 : decode cX10_rehang 11 = .ok (.invokevirtual 261, 3) := dk_182 1 5 (dk_at dksX10_rehang_0 11 rfl rfl)
theorem dX10_rehang_14 : decode cX10_rehang 14 = .ok (.ifCond .eq 47, 3) := dk_153 0 47 (dk_at dksX10_rehang_0 14 rfl rfl)
theorem dX10_rehang_17 : decode cX10_rehang 17 = .ok (.iload_n 2, 1) := dk_28 (dk_at dksX10_rehang_0 17 rfl rfl)
theorem dX10_rehang_18 : decode cX10_rehang 18 = .ok (.iconst 0, 1) := dk_3 (dk_at dksX10_rehang_0 18 rfl rfl)
theorem dX10_rehang_19 : decode cX10_rehang 19 = .ok (.iconst 3, 1) := dk_6 (dk_at dksX10_rehang_0 19 rfl rfl)
theorem dX10_rehang_20 : decode cX10_rehang 20 = .ok (.invokestatic 187, 3) := dk_184 0 187 (dk_at dksX10_rehang_0 20 rfl rfl)
theorem dX10_rehang_23 : decode cX10_rehang 23 = .ok (.ifCond .eq 38, 3) := dk_153 0 38 (dk_at dksX10_rehang_1 0 rfl rfl)
theorem dX10_rehang_26 : decode cX10_rehang 26 = .ok (.aload_n 0, 1) := dk_42 (dk_at dksX10_rehang_1 3 rfl rfl)
theorem dX10_rehang_27 : decode cX10_rehang 27 = .ok (.iload_n 1, 1) := dk_27 (dk_at dksX10_rehang_1 4 rfl rfl)
theorem dX10_rehang_28 : decode cX10_rehang 28 = .ok (.iconst 5, 1) := dk_8 (dk_at dksX10_rehang_1 5 rfl rfl)
theorem dX10_rehang_29 : decode cX10_rehang 29 = .ok (.invokevirtual 267, 3) := dk_182 1 11 (dk_at dksX10_rehang_1 6 rfl rfl)
theorem dX10_rehang_32 : decode cX10_rehang 32 = .ok (.iload_n 2, 1) := dk_28 (dk_at dksX10_rehang_1 9 rfl rfl)
theorem dX10_rehang_33 : decode cX10_rehang 33 = .ok (.invokestatic 231, 3) := dk_184 0 231 (dk_at dksX10_rehang_1 10 rfl rfl)
theorem dX10_rehang_36 : decode cX10_rehang 36 = .ok (.ifCond .eq 25, 3) := dk_153 0 25 (dk_at dksX10_rehang_1 13 rfl rfl)
theorem dX10_rehang_39 : decode cX10_rehang 39 = .ok (.aload_n 0, 1) := dk_42 (dk_at dksX10_rehang_1 16 rfl rfl)
theorem dX10_rehang_40 : decode cX10_rehang 40 = .ok (.getfield 13, 3) := dk_180 0 13 (dk_at dksX10_rehang_1 17 rfl rfl)
theorem dX10_rehang_43 : decode cX10_rehang 43 = .ok (.sipush 330, 3) := dk_17 1 74 (dk_at dksX10_rehang_1 20 rfl rfl)
theorem dX10_rehang_46 : decode cX10_rehang 46 = .ok (.iload_n 1, 1) := dk_27 (dk_at dksX10_rehang_1 23 rfl rfl)
theorem dX10_rehang_47 : decode cX10_rehang 47 = .ok (.iadd, 1) := dk_96 (dk_at dksX10_rehang_2 0 rfl rfl)
theorem dX10_rehang_48 : decode cX10_rehang 48 = .ok (.iaload, 1) := dk_46 (dk_at dksX10_rehang_2 1 rfl rfl)
theorem dX10_rehang_49 : decode cX10_rehang 49 = .ok (.ifCond .ne 12, 3) := dk_154 0 12 (dk_at dksX10_rehang_2 2 rfl rfl)
theorem dX10_rehang_52 : decode cX10_rehang 52 = .ok (.aload_n 0, 1) := dk_42 (dk_at dksX10_rehang_2 5 rfl rfl)
theorem dX10_rehang_53 : decode cX10_rehang 53 = .ok (.iload_n 1, 1) := dk_27 (dk_at dksX10_rehang_2 6 rfl rfl)
theorem dX10_rehang_54 : decode cX10_rehang 54 = .ok (.iload_n 2, 1) := dk_28 (dk_at dksX10_rehang_2 7 rfl rfl)
theorem dX10_rehang_55 : decode cX10_rehang 55 = .ok (.invokevirtual 285, 3) := dk_182 1 29 (dk_at dksX10_rehang_2 8 rfl rfl)
theorem dX10_rehang_58 : decode cX10_rehang 58 = .ok (.ifCond .ne 5, 3) := dk_154 0 5 (dk_at dksX10_rehang_2 11 rfl rfl)
theorem dX10_rehang_61 : decode cX10_rehang 61 = .ok (.iconst 0, 1) := dk_3 (dk_at dksX10_rehang_2 14 rfl rfl)
theorem dX10_rehang_62 : decode cX10_rehang 62 = .ok (.ireturn, 1) := dk_172 (dk_at dksX10_rehang_2 15 rfl rfl)
theorem dX10_rehang_63 : decode cX10_rehang 63 = .ok (.aload_n 0, 1) := dk_42 (dk_at dksX10_rehang_2 16 rfl rfl)
theorem dX10_rehang_64 : decode cX10_rehang 64 = .ok (.getfield 13, 3) := dk_180 0 13 (dk_at dksX10_rehang_2 17 rfl rfl)
theorem dX10_rehang_67 : decode cX10_rehang 67 = .ok (.bipush 110, 2) := dk_16 110 (dk_at dksX10_rehang_2 20 rfl rfl)
theorem dX10_rehang_69 : decode cX10_rehang 69 = .ok (.bipush 10, 2) := dk_16 10 (dk_at dksX10_rehang_2 22 rfl rfl)
theorem dX10_rehang_71 : decode cX10_rehang 71 = .ok (.iload_n 1, 1) := dk_27 (dk_at dksX10_rehang_3 0 rfl rfl)
theorem dX10_rehang_72 : decode cX10_rehang 72 = .ok (.imul, 1) := dk_104 (dk_at dksX10_rehang_3 1 rfl rfl)
theorem dX10_rehang_73 : decode cX10_rehang 73 = .ok (.iadd, 1) := dk_96 (dk_at dksX10_rehang_3 2 rfl rfl)
theorem dX10_rehang_74 : decode cX10_rehang 74 = .ok (.iconst 4, 1) := dk_7 (dk_at dksX10_rehang_3 3 rfl rfl)
theorem dX10_rehang_75 : decode cX10_rehang 75 = .ok (.iadd, 1) := dk_96 (dk_at dksX10_rehang_3 4 rfl rfl)
theorem dX10_rehang_76 : decode cX10_rehang 76 = .ok (.iload_n 2, 1) := dk_28 (dk_at dksX10_rehang_3 5 rfl rfl)
theorem dX10_rehang_77 : decode cX10_rehang 77 = .ok (.iastore, 1) := dk_79 (dk_at dksX10_rehang_3 6 rfl rfl)
theorem dX10_rehang_78 : decode cX10_rehang 78 = .ok (.iconst 1, 1) := dk_4 (dk_at dksX10_rehang_3 7 rfl rfl)
theorem dX10_rehang_79 : decode cX10_rehang 79 = .ok (.ireturn, 1) := dk_172 (dk_at dksX10_rehang_3 8 rfl rfl)
theorem dn_X10_rehang : yX10_rehang.cls ≠ "java/lang/invoke/MethodHandle" ∧ yX10_rehang.cls ≠ "java/lang/invoke/VarHandle" ∧ (parseMethodDescriptor yX10_rehang.desc).map (fun d => d.parameters.length) = some 2 := by decide +kernel
noncomputable def M_X10_rehang (p1 : Int32) (p2 : Int32) : TM Bool := TM.bind (sI 0 0) (fun _ => TM.bind (M_X10_lay) (fun v1 => TM.bind (M_X10_isDoor p1) (fun v2 => cond v2 (TM.bind (M_X10_isIn p2 0 3) (fun v3 => cond v3 (TM.bind (M_X10_of p1 5) (fun v4 => TM.bind (M_X10_has v4 p2) (fun v5 => cond v5 (TM.bind (tA 14 704 (330 + p1)) (fun v6 => if v6 = 0 then TM.bind (M_X10_isFit p1 p2) (fun v7 => cond v7 (TM.bind (sA 14 704 ((110 + (10 * p1)) + 4) p2) (fun _ => TM.pure true)) (TM.pure false)) else TM.pure false)) (TM.pure false)))) (TM.pure false))) (TM.pure false))))
set_option maxHeartbeats 4000000 in
theorem ct_X10_rehang (G : gG) (am : Nat) (p1 : Int32) (p2 : Int32) : gCtM G am yX10_rehang cX10_rehang 3 (some .boolean) 4 101 [.ref am, .int p1, .int p2] (M_X10_rehang p1 p2) (fun x : Bool => some (.int (b2i x))) := by
  refine gCtM.of (by decide) (Nat.le_of_ble_eq_true rfl) (fun K hn ms ms' r hG X hK hd ho => ?_)
  subst hG
  have X : gX K cX10_rehang 3 "BitingDoorsModel" "rehang" (some .boolean) 4 101 := X
  show V K 3 (mkM am hn ms) 0 [(0, .ref am), (1, .int p1), (2, .int p2)] []
  unfold M_X10_rehang at hd
  refine v_aload_n X dX10_rehang_0 0 0 rfl rfl ?_
  refine v_iconst (v := 0) X dX10_rehang_1 (by decide) ?_
  refine t_putI X hd rfl fp_X10_108 dX10_rehang_2 (fun ms hd => ?_)
  refine v_aload_n X dX10_rehang_5 0 0 rfl rfl ?_
  refine t_callV X hK hd (ct_X10_lay _ am) (lw_V q1868 q1870 qs37 q120 q1871) ⟨rfl, dn_X10_lay⟩ rfl ⟨by decide, by decide⟩ rfl (Nat.le_of_ble_eq_true rfl) dX10_rehang_6 (fun v1 ms hd => ?_)
  show V K 3 (mkM am hn ms) 9 [(0, .ref am), (1, .int p1), (2, .int p2)] []
  refine v_aload_n X dX10_rehang_9 0 0 rfl rfl ?_
  refine v_iload_n X dX10_rehang_10 1 1 rfl rfl ?_
  refine t_callV X hK hd (ct_X10_isDoor _ am p1) (lw_V q1982 q1984 qs56 q120 q1985) ⟨rfl, dn_X10_isDoor⟩ rfl ⟨by decide, by decide⟩ rfl (Nat.le_of_ble_eq_true rfl) dX10_rehang_11 (fun v2 ms hd => ?_)
  show V K 3 (mkM am hn ms) 14 [(0, .ref am), (1, .int p1), (2, .int p2)] [.int (b2i v2)]
  refine v_ifZ_eq (tgt := 61) X dX10_rehang_14 (by decide) (fun q => ?_) (fun q => ?_)
  · have hd := Tcnd_f q hd
    refine v_iconst (v := 0) X dX10_rehang_61 (by decide) ?_
    exact t_zret X hK hd rfl ho dX10_rehang_62
  · have hd := Tcnd_t q hd
    refine v_iload_n X dX10_rehang_17 2 2 rfl rfl ?_
    refine v_iconst (v := 0) X dX10_rehang_18 (by decide) ?_
    refine v_iconst (v := 3) X dX10_rehang_19 (by decide) ?_
    refine t_callS X hK hd (ct_X10_isIn _ am p2 0 3) (lw_S q1940 q1941 q120 q1942) dn_X10_isIn rfl ⟨by decide, by decide⟩ rfl (Nat.le_of_ble_eq_true rfl) dX10_rehang_20 (fun v3 ms hd => ?_)
    show V K 3 (mkM am hn ms) 23 [(0, .ref am), (1, .int p1), (2, .int p2)] [.int (b2i v3)]
    refine v_ifZ_eq (tgt := 61) X dX10_rehang_23 (by decide) (fun q => ?_) (fun q => ?_)
    · have hd := Tcnd_f q hd
      refine v_iconst (v := 0) X dX10_rehang_61 (by decide) ?_
      exact t_zret X hK hd rfl ho dX10_rehang_62
    · have hd := Tcnd_t q hd
      refine v_aload_n X dX10_rehang_26 0 0 rfl rfl ?_
      refine v_iload_n X dX10_rehang_27 1 1 rfl rfl ?_
      refine v_iconst (v := 5) X dX10_rehang_28 (by decide) ?_
      refine t_callV X hK hd (ct_X10_of _ am p1 5) (lw_V q1994 q1996 qs59 q120 q1997) ⟨rfl, dn_X10_of⟩ rfl ⟨by decide, by decide⟩ rfl (Nat.le_of_ble_eq_true rfl) dX10_rehang_29 (fun v4 ms hd => ?_)
      show V K 3 (mkM am hn ms) 32 [(0, .ref am), (1, .int p1), (2, .int p2)] [.int v4]
      refine v_iload_n X dX10_rehang_32 2 2 rfl rfl ?_
      refine t_callS X hK hd (ct_X10_has _ am v4 p2) (lw_S q1947 q1948 q120 q1949) dn_X10_has rfl ⟨by decide, by decide⟩ rfl (Nat.le_of_ble_eq_true rfl) dX10_rehang_33 (fun v5 ms hd => ?_)
      show V K 3 (mkM am hn ms) 36 [(0, .ref am), (1, .int p1), (2, .int p2)] [.int (b2i v5)]
      refine v_ifZ_eq (tgt := 61) X dX10_rehang_36 (by decide) (fun q => ?_) (fun q => ?_)
      · have hd := Tcnd_f q hd
        refine v_iconst (v := 0) X dX10_rehang_61 (by decide) ?_
        exact t_zret X hK hd rfl ho dX10_rehang_62
      · have hd := Tcnd_t q hd
        refine v_aload_n X dX10_rehang_39 0 0 rfl rfl ?_
        refine t_getA (j := 1) X rfl fl_X10_13 dX10_rehang_40 ?_
        refine v_sipush (v := 330) X dX10_rehang_43 (by decide) ?_
        refine v_iload_n X dX10_rehang_46 1 1 rfl rfl ?_
        refine v_iadd X dX10_rehang_47 ?_
        refine t_iald (j := 1) X hd rfl dX10_rehang_48 (fun v6 hd => ?_)
        refine v_if_ne (tgt := 61) X dX10_rehang_49 (by decide) (fun q => ?_) (fun q => ?_)
        · have hd := Tite_f q hd
          refine v_iconst (v := 0) X dX10_rehang_61 (by decide) ?_
          exact t_zret X hK hd rfl ho dX10_rehang_62
        · have hd := Tite_t q hd
          refine v_aload_n X dX10_rehang_52 0 0 rfl rfl ?_
          refine v_iload_n X dX10_rehang_53 1 1 rfl rfl ?_
          refine v_iload_n X dX10_rehang_54 2 2 rfl rfl ?_
          refine t_callV X hK hd (ct_X10_isFit _ am p1 p2) (lw_V q2022 q2024 qs63 q120 q2025) ⟨rfl, dn_X10_isFit⟩ rfl ⟨by decide, by decide⟩ rfl (Nat.le_of_ble_eq_true rfl) dX10_rehang_55 (fun v7 ms hd => ?_)
          show V K 3 (mkM am hn ms) 58 [(0, .ref am), (1, .int p1), (2, .int p2)] [.int (b2i v7)]
          refine v_ifZ_ne (tgt := 63) X dX10_rehang_58 (by decide) (fun q => ?_) (fun q => ?_)
          · have hd := Tcnd_t q hd
            refine v_aload_n X dX10_rehang_63 0 0 rfl rfl ?_
            refine t_getA (j := 1) X rfl fl_X10_13 dX10_rehang_64 ?_
            refine v_bipush (v := 110) X dX10_rehang_67 (by decide) ?_
            refine v_bipush (v := 10) X dX10_rehang_69 (by decide) ?_
            refine v_iload_n X dX10_rehang_71 1 1 rfl rfl ?_
            refine v_imul X dX10_rehang_72 ?_
            refine v_iadd X dX10_rehang_73 ?_
            refine v_iconst (v := 4) X dX10_rehang_74 (by decide) ?_
            refine v_iadd X dX10_rehang_75 ?_
            refine v_iload_n X dX10_rehang_76 2 2 rfl rfl ?_
            refine t_iast (j := 1) X hd rfl dX10_rehang_77 (fun ms hd => ?_)
            refine v_iconst (v := 1) X dX10_rehang_78 (by decide) ?_
            exact t_zret X hK hd rfl ho dX10_rehang_79
          · have hd := Tcnd_f q hd
            refine v_iconst (v := 0) X dX10_rehang_61 (by decide) ?_
            exact t_zret X hK hd rfl ho dX10_rehang_62
def dkwX10_refuse_0 : List UInt8 := [42, 4, 181, 0, 108, 3, 172]
abbrev dktX10_refuse_0 : List UInt8 := dkwX10_refuse_0 ++ []
theorem dksX10_refuse_0 : cX10_refuse.data.toList.drop 0 = dktX10_refuse_0 := by decide +kernel
theorem dX10_refuse_0 : decode cX10_refuse 0 = .ok (.aload_n 0, 1) := dk_42 (dk_at dksX10_refuse_0 0 rfl rfl)
theorem dX10_refuse_1 : decode cX10_refuse 1 = .ok (.iconst 1, 1) := dk_4 (dk_at dksX10_refuse_0 1 rfl rfl)
theorem dX10_refuse_2 : decode cX10_refuse 2 = .ok (.putfield 108, 3) := dk_181 0 108 (dk_at dksX10_refuse_0 2 rfl rfl)
theorem dX10_refuse_5 : decode cX10_refuse 5 = .ok (.iconst 0, 1) := dk_3 (dk_at dksX10_refuse_0 5 rfl rfl)
theorem dX10_refuse_6 : decode cX10_refuse 6 = .ok (.ireturn, 1) := dk_172 (dk_at dksX10_refuse_0 6 rfl rfl)
theorem dn_X10_refuse : yX10_refuse.cls ≠ "java/lang/invoke/MethodHandle" ∧ yX10_refuse.cls ≠ "java/lang/invoke/VarHandle" ∧ (parseMethodDescriptor yX10_refuse.desc).map (fun d => d.parameters.length) = some 0 := by decide +kernel
noncomputable def M_X10_refuse  : TM Int32 := TM.bind (sI 0 1) (fun _ => TM.pure 0)
set_option maxHeartbeats 4000000 in
theorem ct_X10_refuse (G : gG) (am : Nat)  : gCtM G am yX10_refuse cX10_refuse 1 (some .int) 0 0 [.ref am] (M_X10_refuse) (fun x : Int32 => some (.int x)) := by
  refine gCtM.of (by decide) (Nat.le_of_ble_eq_true rfl) (fun K hn ms ms' r hG X hK hd ho => ?_)
  subst hG
  have X : gX K cX10_refuse 1 "BitingDoorsModel" "refuse" (some .int) 0 0 := X
  show V K 1 (mkM am hn ms) 0 [(0, .ref am)] []
  unfold M_X10_refuse at hd
  refine v_aload_n X dX10_refuse_0 0 0 rfl rfl ?_
  refine v_iconst (v := 1) X dX10_refuse_1 (by decide) ?_
  refine t_putI X hd rfl fp_X10_108 dX10_refuse_2 (fun ms hd => ?_)
  refine v_iconst (v := 0) X dX10_refuse_5 (by decide) ?_
  exact t_iret X hK hd ho dX10_refuse_6
def dkwX10_door_3 : List UInt8 := [182, 1, 11, 172]
abbrev dktX10_door_3 : List UInt8 := dkwX10_door_3 ++ []
def dkwX10_door_2 : List UInt8 := [8, 160, 0, 16, 42, 180, 0, 13, 17, 1, 74, 27, 96, 46, 167, 0, 11, 42, 27, 28, 4, 100]
abbrev dktX10_door_2 : List UInt8 := dkwX10_door_2 ++ dktX10_door_3
def dkwX10_door_1 : List UInt8 := [182, 1, 8, 172, 42, 3, 181, 0, 108, 28, 8, 162, 0, 12, 42, 27, 28, 182, 1, 11, 167, 0, 29, 28]
abbrev dktX10_door_1 : List UInt8 := dkwX10_door_1 ++ dktX10_door_2
def dkwX10_door_0 : List UInt8 := [42, 182, 0, 200, 42, 27, 182, 1, 5, 153, 0, 13, 28, 3, 16, 8, 184, 0, 187, 154, 0, 8, 42]
abbrev dktX10_door_0 : List UInt8 := dkwX10_door_0 ++ dktX10_door_1
theorem dksX10_door_0 : cX10_door.data.toList.drop 0 = dktX10_door_0 := by decide +kernel
theorem dksX10_door_1 : cX10_door.data.toList.drop 23 = dktX10_door_1 := dk_seg dksX10_door_0 23 rfl rfl
theorem dksX10_door_2 : cX10_door.data.toList.drop 47 = dktX10_door_2 := dk_seg dksX10_door_1 24 rfl rfl
theorem dksX10_door_3 : cX10_door.data.toList.drop 69 = dktX10_door_3 := dk_seg dksX10_door_2 22 rfl rfl
theorem dX10_door_0 : decode cX10_door 0 = .ok (.aload_n 0, 1) := dk_42 (dk_at dksX10_door_0 0 rfl rfl)
theorem dX10_door_1 : decode cX10_door 1 = .ok (.invokevirtual 200, 3) := dk_182 0 200 (dk_at dksX10_door_0 1 rfl rfl)
theorem dX10_door_4 : decode cX10_door 4 = .ok (.aload_n 0, 1) := dk_42 (dk_at dksX10_door_0 4 rfl rfl)
theorem dX10_door_5 : decode cX10_door 5 = .ok (.iload_n 1, 1) := dk_27 (dk_at dksX10_door_0 5 rfl rfl)
theorem dX10_door_6 : decode cX10_door 6 = .ok (.invokevirtual 261, 3) := dk_182 1 5 (dk_at dksX10_door_0 6 rfl rfl)
theorem dX10_door_9 : decode cX10_door 9 = .ok (.ifCond .eq 13, 3) := dk_153 0 13 (dk_at dksX10_door_0 9 rfl rfl)
theorem dX10_door_12 : decode cX10_door 12 = .ok (.iload_n 2, 1) := dk_28 (dk_at dksX10_door_0 12 rfl rfl)
theorem dX10_door_13 : decode cX10_door 13 = .ok (.iconst 0, 1) := dk_3 (dk_at dksX10_door_0 13 rfl rfl)
theorem dX10_door_14 : decode cX10_door 14 = .ok (.bipush 8, 2) := dk_16 8 (dk_at dksX10_door_0 14 rfl rfl)
theorem dX10_door_16 : decode cX10_door 16 = .ok (.invokestatic 187, 3) := dk_184 0 187 (dk_at dksX10_door_0 16 rfl rfl)
theorem dX10_door_19 : decode cX10_door 19 = .ok (.ifCond .ne 8, 3) := dk_154 0 8 (dk_at dksX10_door_0 19 rfl rfl)
theorem dX10_door_22 : decode cX10_door 22 = .ok (.aload_n 0, 1) := dk_42 (dk_at dksX10_door_0 22 rfl rfl)
theorem dX10_door_23 : decode cX10_door 23 = .ok (.invokevirtual 264, 3) := dk_182 1 8 (dk_at dksX10_door_1 0 rfl rfl)
theorem dX10_door_26 : decode cX10_door 26 = .ok (.ireturn, 1) := dk_172 (dk_at dksX10_door_1 3 rfl rfl)
theorem dX10_door_27 : decode cX10_door 27 = .ok (.aload_n 0, 1) := dk_42 (dk_at dksX10_door_1 4 rfl rfl)
theorem dX10_door_28 : decode cX10_door 28 = .ok (.iconst 0, 1) := dk_3 (dk_at dksX10_door_1 5 rfl rfl)
theorem dX10_door_29 : decode cX10_door 29 = .ok (.putfield 108, 3) := dk_181 0 108 (dk_at dksX10_door_1 6 rfl rfl)
theorem dX10_door_32 : decode cX10_door 32 = .ok (.iload_n 2, 1) := dk_28 (dk_at dksX10_door_1 9 rfl rfl)
theorem dX10_door_33 : decode cX10_door 33 = .ok (.iconst 5, 1) := dk_8 (dk_at dksX10_door_1 10 rfl rfl)
theorem dX10_door_34 : decode cX10_door 34 = .ok (.if_icmp .ge 12, 3) := dk_162 0 12 (dk_at dksX10_door_1 11 rfl rfl)
theorem dX10_door_37 : decode cX10_door 37 = .ok (.aload_n 0, 1) := dk_42 (dk_at dksX10_door_1 14 rfl rfl)
theorem dX10_door_38 : decode cX10_door 38 = .ok (.iload_n 1, 1) := dk_27 (dk_at dksX10_door_1 15 rfl rfl)
theorem dX10_door_39 : decode cX10_door 39 = .ok (.iload_n 2, 1) := dk_28 (dk_at dksX10_door_1 16 rfl rfl)
theorem dX10_door_40 : decode cX10_door 40 = .ok (.invokevirtual 267, 3) := dk_182 1 11 (dk_at dksX10_door_1 17 rfl rfl)
theorem dX10_door_43 : decode cX10_door 43 = .ok (.goto 29, 3) := dk_167 0 29 (dk_at dksX10_door_1 20 rfl rfl)
theorem dX10_door_46 : decode cX10_door 46 = .ok (.iload_n 2, 1) := dk_28 (dk_at dksX10_door_1 23 rfl rfl)
theorem dX10_door_47 : decode cX10_door 47 = .ok (.iconst 5, 1) := dk_8 (dk_at dksX10_door_2 0 rfl rfl)
theorem dX10_door_48 : decode cX10_door 48 = .ok (.if_icmp .ne 16, 3) := dk_160 0 16 (dk_at dksX10_door_2 1 rfl rfl)
theorem dX10_door_51 : decode cX10_door 51 = .ok (.aload_n 0, 1) := dk_42 (dk_at dksX10_door_2 4 rfl rfl)
theorem dX10_door_52 : decode cX10_door 52 = .ok (.getfield 13, 3) := dk_180 0 13 (dk_at dksX10_door_2 5 rfl rfl)
theorem dX10_door_55 : decode cX10_door 55 = .ok (.sipush 330, 3) := dk_17 1 74 (dk_at dksX10_door_2 8 rfl rfl)
theorem dX10_door_58 : decode cX10_door 58 = .ok (.iload_n 1, 1) := dk_27 (dk_at dksX10_door_2 11 rfl rfl)
theorem dX10_door_59 : decode cX10_door 59 = .ok (.iadd, 1) := dk_96 (dk_at dksX10_door_2 12 rfl rfl)
theorem dX10_door_60 : decode cX10_door 60 = .ok (.iaload, 1) := dk_46 (dk_at dksX10_door_2 13 rfl rfl)
theorem dX10_door_61 : decode cX10_door 61 = .ok (.goto 11, 3) := dk_167 0 11 (dk_at dksX10_door_2 14 rfl rfl)
theorem dX10_door_64 : decode cX10_door 64 = .ok (.aload_n 0, 1) := dk_42 (dk_at dksX10_door_2 17 rfl rfl)
theorem dX10_door_65 : decode cX10_door 65 = .ok (.iload_n 1, 1) := dk_27 (dk_at dksX10_door_2 18 rfl rfl)
theorem dX10_door_66 : decode cX10_door 66 = .ok (.iload_n 2, 1) := dk_28 (dk_at dksX10_door_2 19 rfl rfl)
theorem dX10_door_67 : decode cX10_door 67 = .ok (.iconst 1, 1) := dk_4 (dk_at dksX10_door_2 20 rfl rfl)
theorem dX10_door_68 : decode cX10_door 68 = .ok (.isub, 1) := dk_100 (dk_at dksX10_door_2 21 rfl rfl)
theorem dX10_door_69 : decode cX10_door 69 = .ok (.invokevirtual 267, 3) := dk_182 1 11 (dk_at dksX10_door_3 0 rfl rfl)
theorem dX10_door_72 : decode cX10_door 72 = .ok (.ireturn, 1) := dk_172 (dk_at dksX10_door_3 3 rfl rfl)
theorem dn_X10_door : yX10_door.cls ≠ "java/lang/invoke/MethodHandle" ∧ yX10_door.cls ≠ "java/lang/invoke/VarHandle" ∧ (parseMethodDescriptor yX10_door.desc).map (fun d => d.parameters.length) = some 2 := by decide +kernel
noncomputable def M_X10_door (p1 : Int32) (p2 : Int32) : TM Int32 := TM.bind (M_X10_lay) (fun v1 => TM.bind (M_X10_isDoor p1) (fun v2 => cond v2 (TM.bind (M_X10_isIn p2 0 8) (fun v4 => cond v4 (TM.bind (sI 0 0) (fun _ => TM.bind ((if 5 ≤ p2 then if p2 = 5 then TM.bind (tA 14 704 (330 + p1)) (fun v7 => TM.pure v7) else TM.bind (M_X10_of p1 (p2 - 1)) (fun v6 => TM.pure v6) else TM.bind (M_X10_of p1 p2) (fun v8 => TM.pure v8) : TM (Int32))) (fun u5 => TM.pure u5))) (TM.bind (M_X10_refuse) (fun v9 => TM.pure v9)))) (TM.bind (M_X10_refuse) (fun v3 => TM.pure v3))))
set_option maxHeartbeats 4000000 in
theorem ct_X10_door (G : gG) (am : Nat) (p1 : Int32) (p2 : Int32) : gCtM G am yX10_door cX10_door 3 (some .int) 2 41 [.ref am, .int p1, .int p2] (M_X10_door p1 p2) (fun x : Int32 => some (.int x)) := by
  refine gCtM.of (by decide) (Nat.le_of_ble_eq_true rfl) (fun K hn ms ms' r hG X hK hd ho => ?_)
  subst hG
  have X : gX K cX10_door 3 "BitingDoorsModel" "door" (some .int) 2 41 := X
  show V K 3 (mkM am hn ms) 0 [(0, .ref am), (1, .int p1), (2, .int p2)] []
  unfold M_X10_door at hd
  refine v_aload_n X dX10_door_0 0 0 rfl rfl ?_
  refine t_callV X hK hd (ct_X10_lay _ am) (lw_V q1868 q1870 qs37 q120 q1871) ⟨rfl, dn_X10_lay⟩ rfl ⟨by decide, by decide⟩ rfl (Nat.le_of_ble_eq_true rfl) dX10_door_1 (fun v1 ms hd => ?_)
  show V K 3 (mkM am hn ms) 4 [(0, .ref am), (1, .int p1), (2, .int p2)] []
  refine v_aload_n X dX10_door_4 0 0 rfl rfl ?_
  refine v_iload_n X dX10_door_5 1 1 rfl rfl ?_
  refine t_callV X hK hd (ct_X10_isDoor _ am p1) (lw_V q1982 q1984 qs56 q120 q1985) ⟨rfl, dn_X10_isDoor⟩ rfl ⟨by decide, by decide⟩ rfl (Nat.le_of_ble_eq_true rfl) dX10_door_6 (fun v2 ms hd => ?_)
  show V K 3 (mkM am hn ms) 9 [(0, .ref am), (1, .int p1), (2, .int p2)] [.int (b2i v2)]
  refine v_ifZ_eq (tgt := 22) X dX10_door_9 (by decide) (fun q => ?_) (fun q => ?_)
  · have hd := Tcnd_f q hd
    refine v_aload_n X dX10_door_22 0 0 rfl rfl ?_
    refine t_callV X hK hd (ct_X10_refuse _ am) (lw_V q1990 q1992 qs58 q120 q1993) ⟨rfl, dn_X10_refuse⟩ rfl ⟨by decide, by decide⟩ rfl (Nat.le_of_ble_eq_true rfl) dX10_door_23 (fun v3 ms hd => ?_)
    show V K 3 (mkM am hn ms) 26 [(0, .ref am), (1, .int p1), (2, .int p2)] [.int v3]
    exact t_iret X hK hd ho dX10_door_26
  · have hd := Tcnd_t q hd
    refine v_iload_n X dX10_door_12 2 2 rfl rfl ?_
    refine v_iconst (v := 0) X dX10_door_13 (by decide) ?_
    refine v_bipush (v := 8) X dX10_door_14 (by decide) ?_
    refine t_callS X hK hd (ct_X10_isIn _ am p2 0 8) (lw_S q1940 q1941 q120 q1942) dn_X10_isIn rfl ⟨by decide, by decide⟩ rfl (Nat.le_of_ble_eq_true rfl) dX10_door_16 (fun v4 ms hd => ?_)
    show V K 3 (mkM am hn ms) 19 [(0, .ref am), (1, .int p1), (2, .int p2)] [.int (b2i v4)]
    refine v_ifZ_ne (tgt := 27) X dX10_door_19 (by decide) (fun q => ?_) (fun q => ?_)
    · have hd := Tcnd_t q hd
      refine v_aload_n X dX10_door_27 0 0 rfl rfl ?_
      refine v_iconst (v := 0) X dX10_door_28 (by decide) ?_
      refine t_putI X hd rfl fp_X10_108 dX10_door_29 (fun ms hd => ?_)
      refine v_iload_n X dX10_door_32 2 2 rfl rfl ?_
      refine v_iconst (v := 5) X dX10_door_33 (by decide) ?_
      obtain ⟨u5, m1, hd, hd2⟩ := TM.bind_some hd
      have KJ : V K 3 (mkM am hn m1) 72 [] [.int u5] := by
        clear hd
        have hd := hd2
        exact t_iret X hK hd ho dX10_door_72
      clear hd2
      refine v_icmp_ge (tgt := 46) X dX10_door_34 (by decide) (fun q => ?_) (fun q => ?_)
      · have hd := Tite_t q hd
        refine v_iload_n X dX10_door_46 2 2 rfl rfl ?_
        refine v_iconst (v := 5) X dX10_door_47 (by decide) ?_
        refine v_icmp_ne (tgt := 64) X dX10_door_48 (by decide) (fun q => ?_) (fun q => ?_)
        · have hd := Tite_f q hd
          refine v_aload_n X dX10_door_64 0 0 rfl rfl ?_
          refine v_iload_n X dX10_door_65 1 1 rfl rfl ?_
          refine v_iload_n X dX10_door_66 2 2 rfl rfl ?_
          refine v_iconst (v := 1) X dX10_door_67 (by decide) ?_
          refine v_isub X dX10_door_68 ?_
          refine t_callV X hK hd (ct_X10_of _ am p1 (p2 - 1)) (lw_V q1994 q1996 qs59 q120 q1997) ⟨rfl, dn_X10_of⟩ rfl ⟨by decide, by decide⟩ rfl (Nat.le_of_ble_eq_true rfl) dX10_door_69 (fun v6 ms hd => ?_)
          show V K 3 (mkM am hn ms) 72 [(0, .ref am), (1, .int p1), (2, .int p2)] [.int v6]
          exact v_loc [] rfl (t_at (P := fun (u5 : Int32) m => V K 3 (mkM am hn m) 72 [] [.int u5]) hd KJ)
        · have hd := Tite_t q hd
          refine v_aload_n X dX10_door_51 0 0 rfl rfl ?_
          refine t_getA (j := 1) X rfl fl_X10_13 dX10_door_52 ?_
          refine v_sipush (v := 330) X dX10_door_55 (by decide) ?_
          refine v_iload_n X dX10_door_58 1 1 rfl rfl ?_
          refine v_iadd X dX10_door_59 ?_
          refine t_iald (j := 1) X hd rfl dX10_door_60 (fun v7 hd => ?_)
          refine v_goto (tgt := 72) X dX10_door_61 (by decide) ?_
          exact v_loc [] rfl (t_at (P := fun (u5 : Int32) m => V K 3 (mkM am hn m) 72 [] [.int u5]) hd KJ)
      · have hd := Tite_f q hd
        refine v_aload_n X dX10_door_37 0 0 rfl rfl ?_
        refine v_iload_n X dX10_door_38 1 1 rfl rfl ?_
        refine v_iload_n X dX10_door_39 2 2 rfl rfl ?_
        refine t_callV X hK hd (ct_X10_of _ am p1 p2) (lw_V q1994 q1996 qs59 q120 q1997) ⟨rfl, dn_X10_of⟩ rfl ⟨by decide, by decide⟩ rfl (Nat.le_of_ble_eq_true rfl) dX10_door_40 (fun v8 ms hd => ?_)
        show V K 3 (mkM am hn ms) 43 [(0, .ref am), (1, .int p1), (2, .int p2)] [.int v8]
        refine v_goto (tgt := 72) X dX10_door_43 (by decide) ?_
        exact v_loc [] rfl (t_at (P := fun (u5 : Int32) m => V K 3 (mkM am hn m) 72 [] [.int u5]) hd KJ)
    · have hd := Tcnd_f q hd
      refine v_aload_n X dX10_door_22 0 0 rfl rfl ?_
      refine t_callV X hK hd (ct_X10_refuse _ am) (lw_V q1990 q1992 qs58 q120 q1993) ⟨rfl, dn_X10_refuse⟩ rfl ⟨by decide, by decide⟩ rfl (Nat.le_of_ble_eq_true rfl) dX10_door_23 (fun v9 ms hd => ?_)
      show V K 3 (mkM am hn ms) 26 [(0, .ref am), (1, .int p1), (2, .int p2)] [.int v9]
      exact t_iret X hK hd ho dX10_door_26
def dkwX10_walk_2 : List UInt8 := [167, 255, 219, 42, 182, 1, 134, 42, 89, 180, 0, 255, 27, 96, 181, 0, 255, 27, 172]
abbrev dktX10_walk_2 : List UInt8 := dkwX10_walk_2 ++ []
def dkwX10_walk_1 : List UInt8 := [27, 46, 182, 1, 128, 153, 0, 22, 42, 42, 180, 0, 99, 27, 46, 182, 1, 131, 154, 0, 9, 132, 1, 1]
abbrev dktX10_walk_1 : List UInt8 := dkwX10_walk_1 ++ dktX10_walk_2
def dkwX10_walk_0 : List UInt8 := [42, 3, 181, 0, 108, 42, 182, 1, 125, 3, 60, 27, 42, 180, 1, 173, 162, 0, 35, 42, 42, 180, 0, 99]
abbrev dktX10_walk_0 : List UInt8 := dkwX10_walk_0 ++ dktX10_walk_1
theorem dksX10_walk_0 : cX10_walk.data.toList.drop 0 = dktX10_walk_0 := by decide +kernel
theorem dksX10_walk_1 : cX10_walk.data.toList.drop 24 = dktX10_walk_1 := dk_seg dksX10_walk_0 24 rfl rfl
theorem dksX10_walk_2 : cX10_walk.data.toList.drop 48 = dktX10_walk_2 := dk_seg dksX10_walk_1 24 rfl rfl
theorem dX10_walk_0 : decode cX10_walk 0 = .ok (.aload_n 0, 1) := dk_42 (dk_at dksX10_walk_0 0 rfl rfl)
theorem dX10_walk_1 : decode cX10_walk 1 = .ok (.iconst 0, 1) := dk_3 (dk_at dksX10_walk_0 1 rfl rfl)
theorem dX10_walk_2 : decode cX10_walk 2 = .ok (.putfield 108, 3) := dk_181 0 108 (dk_at dksX10_walk_0 2 rfl rfl)
theorem dX10_walk_5 : decode cX10_walk 5 = .ok (.aload_n 0, 1) := dk_42 (dk_at dksX10_walk_0 5 rfl rfl)
theorem dX10_walk_6 : decode cX10_walk 6 = .ok (.invokevirtual 381, 3) := dk_182 1 125 (dk_at dksX10_walk_0 6 rfl rfl)
theorem dX10_walk_9 : decode cX10_walk 9 = .ok (.iconst 0, 1) := dk_3 (dk_at dksX10_walk_0 9 rfl rfl)
theorem dX10_walk_10 : decode cX10_walk 10 = .ok (.istore_n 1, 1) := dk_60 (dk_at dksX10_walk_0 10 rfl rfl)
theorem dX10_walk_11 : decode cX10_walk 11 = .ok (.iload_n 1, 1) := dk_27 (dk_at dksX10_walk_0 11 rfl rfl)
theorem dX10_walk_12 : decode cX10_walk 12 = .ok (.aload_n 0, 1) := dk_42 (dk_at dksX10_walk_0 12 rfl rfl)
theorem dX10_walk_13 : decode cX10_walk 13 = .ok (.getfield 429, 3) := dk_180 1 173 (dk_at dksX10_walk_0 13 rfl rfl)
theorem dX10_walk_16 : decode cX10_walk 16 = .ok (.if_icmp .ge 35, 3) := dk_162 0 35 (dk_at dksX10_walk_0 16 rfl rfl)
theorem dX10_walk_19 : decode cX10_walk 19 = .ok (.aload_n 0, 1) := dk_42 (dk_at dksX10_walk_0 19 rfl rfl)
theorem dX10_walk_20 : decode cX10_walk 20 = .ok (.aload_n 0, 1) := dk_42 (dk_at dksX10_walk_0 20 rfl rfl)
theorem dX10_walk_21 : decode cX10_walk 21 = .ok (.getfield 99, 3) := dk_180 0 99 (dk_at dksX10_walk_0 21 rfl rfl)
theorem dX10_walk_24 : decode cX10_walk 24 = .ok (.iload_n 1, 1) := dk_27 (dk_at dksX10_walk_1 0 rfl rfl)
theorem dX10_walk_25 : decode cX10_walk 25 = .ok (.iaload, 1) := dk_46 (dk_at dksX10_walk_1 1 rfl rfl)
theorem dX10_walk_26 : decode cX10_walk 26 = .ok (.invokevirtual 384, 3) := dk_182 1 128 (dk_at dksX10_walk_1 2 rfl rfl)
theorem dX10_walk_29 : decode cX10_walk 29 = .ok (.ifCond .eq 22, 3) := dk_153 0 22 (dk_at dksX10_walk_1 5 rfl rfl)
theorem dX10_walk_32 : decode cX10_walk 32 = .ok (.aload_n 0, 1) := dk_42 (dk_at dksX10_walk_1 8 rfl rfl)
theorem dX10_walk_33 : decode cX10_walk 33 = .ok (.aload_n 0, 1) := dk_42 (dk_at dksX10_walk_1 9 rfl rfl)
theorem dX10_walk_34 : decode cX10_walk 34 = .ok (.getfield 99, 3) := dk_180 0 99 (dk_at dksX10_walk_1 10 rfl rfl)
theorem dX10_walk_37 : decode cX10_walk 37 = .ok (.iload_n 1, 1) := dk_27 (dk_at dksX10_walk_1 13 rfl rfl)
theorem dX10_walk_38 : decode cX10_walk 38 = .ok (.iaload, 1) := dk_46 (dk_at dksX10_walk_1 14 rfl rfl)
theorem dX10_walk_39 : decode cX10_walk 39 = .ok (.invokevirtual 387, 3) := dk_182 1 131 (dk_at dksX10_walk_1 15 rfl rfl)
theorem dX10_walk_42 : decode cX10_walk 42 = .ok (.ifCond .ne 9, 3) := dk_154 0 9 (dk_at dksX10_walk_1 18 rfl rfl)
theorem dX10_walk_45 : decode cX10_walk 45 = .ok (.iinc 1 1, 3) := dk_132 1 1 (dk_at dksX10_walk_1 21 rfl rfl)
theorem dX10_walk_48 : decode cX10_walk 48 = .ok (.goto (-37), 3) := dk_167 255 219 (dk_at dksX10_walk_2 0 rfl rfl)
theorem dX10_walk_51 : decode cX10_walk 51 = .ok (.aload_n 0, 1) := dk_42 (dk_at dksX10_walk_2 3 rfl rfl)
theorem dX10_walk_52 : decode cX10_walk 52 = .ok (.invokevirtual 390, 3) := dk_182 1 134 (dk_at dksX10_walk_2 4 rfl rfl)
theorem dX10_walk_55 : decode cX10_walk 55 = .ok (.aload_n 0, 1) := dk_42 (dk_at dksX10_walk_2 7 rfl rfl)
theorem dX10_walk_56 : decode cX10_walk 56 = .ok (.dup, 1) := dk_89 (dk_at dksX10_walk_2 8 rfl rfl)
theorem dX10_walk_57 : decode cX10_walk 57 = .ok (.getfield 255, 3) := dk_180 0 255 (dk_at dksX10_walk_2 9 rfl rfl)
theorem dX10_walk_60 : decode cX10_walk 60 = .ok (.iload_n 1, 1) := dk_27 (dk_at dksX10_walk_2 12 rfl rfl)
theorem dX10_walk_61 : decode cX10_walk 61 = .ok (.iadd, 1) := dk_96 (dk_at dksX10_walk_2 13 rfl rfl)
theorem dX10_walk_62 : decode cX10_walk 62 = .ok (.putfield 255, 3) := dk_181 0 255 (dk_at dksX10_walk_2 14 rfl rfl)
theorem dX10_walk_65 : decode cX10_walk 65 = .ok (.iload_n 1, 1) := dk_27 (dk_at dksX10_walk_2 17 rfl rfl)
theorem dX10_walk_66 : decode cX10_walk 66 = .ok (.ireturn, 1) := dk_172 (dk_at dksX10_walk_2 18 rfl rfl)
theorem fl_X10_429 : gFl "BitingDoorsModel" 429 [8] 57 := by
  intro args s hts hN ci hc
  simp only [List.mem_cons, List.not_mem_nil, or_false] at hc
  subst hc
  exact ⟨RX10, TX10, 64, "BitingDoorsModel", gCl_X10, in_X10, by decide, Or.inl (hts _ q1707), fun _ h => h⟩
theorem dn_X10_walk : yX10_walk.cls ≠ "java/lang/invoke/MethodHandle" ∧ yX10_walk.cls ≠ "java/lang/invoke/VarHandle" ∧ (parseMethodDescriptor yX10_walk.desc).map (fun d => d.parameters.length) = some 0 := by decide +kernel
noncomputable def M_X10_walk  : TM Int32 := TM.bind (sI 0 0) (fun _ => TM.bind (M_X10_takeNow) (fun v1 => TM.bind (TM.loop (S := Int32) (E := Int32) (fun s2 => TM.bind (tI 57) (fun v6 => if v6 ≤ s2 then TM.pure (Sum.inr s2) else TM.bind (tA 54 24300 s2) (fun v7 => TM.bind (M_X10_isAct v7) (fun v8 => cond v8 (TM.bind (tA 54 24300 s2) (fun v9 => TM.bind (M_X10_minute v9) (fun v10 => if v10 = 0 then TM.lv (s2 + 1) (fun v11 => TM.pure (Sum.inl v11)) else TM.pure (Sum.inr s2)))) (TM.pure (Sum.inr s2)))))) 0) (fun e5 => TM.bind (M_X10_keepNow) (fun v12 => TM.bind (tI 23) (fun v13 => TM.bind (sI 23 (v13 + e5)) (fun _ => TM.pure e5))))))
set_option maxHeartbeats 4000000 in
theorem ct_X10_walk (G : gG) (am : Nat)  : gCtM G am yX10_walk cX10_walk 2 (some .int) 6 150 [.ref am] (M_X10_walk) (fun x : Int32 => some (.int x)) := by
  refine gCtM.of (by decide) (Nat.le_of_ble_eq_true rfl) (fun K hn ms ms' r hG X hK hd ho => ?_)
  subst hG
  have X : gX K cX10_walk 2 "BitingDoorsModel" "walk" (some .int) 6 150 := X
  show V K 2 (mkM am hn ms) 0 [(0, .ref am)] []
  unfold M_X10_walk at hd
  refine v_aload_n X dX10_walk_0 0 0 rfl rfl ?_
  refine v_iconst (v := 0) X dX10_walk_1 (by decide) ?_
  refine t_putI X hd rfl fp_X10_108 dX10_walk_2 (fun ms hd => ?_)
  refine v_aload_n X dX10_walk_5 0 0 rfl rfl ?_
  refine t_callV X hK hd (ct_X10_takeNow _ am) (lw_V q2144 q2146 qs77 q120 q2147) ⟨rfl, dn_X10_takeNow⟩ rfl ⟨by decide, by decide⟩ rfl (Nat.le_of_ble_eq_true rfl) dX10_walk_6 (fun v1 ms hd => ?_)
  show V K 2 (mkM am hn ms) 9 [(0, .ref am)] []
  refine v_iconst (v := 0) X dX10_walk_9 (by decide) ?_
  refine v_istore_n (lv2 := [(1, .int 0), (0, .ref am)]) X dX10_walk_10 1 rfl (by decide) rfl ?_
  obtain ⟨e5, m1, hd, hd2⟩ := TM.bind_some hd
  have KX : V K 2 (mkM am hn m1) 51 [(0, .ref am), (1, .int e5)] [] := by
    clear hd
    have hd := hd2
    refine v_aload_n X dX10_walk_51 0 0 rfl rfl ?_
    refine t_callV X hK hd (ct_X10_keepNow _ am) (lw_V q2192 q2194 qs87 q120 q2195) ⟨rfl, dn_X10_keepNow⟩ rfl ⟨by decide, by decide⟩ rfl (Nat.le_of_ble_eq_true rfl) dX10_walk_52 (fun v12 ms hd => ?_)
    show V K 2 (mkM am hn ms) 55 [(0, .ref am), (1, .int e5)] []
    refine v_aload_n X dX10_walk_55 0 0 rfl rfl ?_
    refine v_dup X dX10_walk_56 rfl ?_
    refine t_getI X hd rfl fl_X10_255 dX10_walk_57 (fun v13 hd => ?_)
    refine v_iload_n X dX10_walk_60 1 1 rfl rfl ?_
    refine v_iadd X dX10_walk_61 ?_
    refine t_putI X hd rfl fp_X10_255 dX10_walk_62 (fun ms hd => ?_)
    refine v_iload_n X dX10_walk_65 1 1 rfl rfl ?_
    exact t_iret X hK hd ho dX10_walk_66
  clear hd2
  refine v_loc [1, 0] rfl ?_
  refine Tloop_ind hd (fun (s2 : Int32) m => V K 2 (mkM am hn m) 11 [(0, .ref am), (1, .int s2)] []) (fun s2 ms x m2 hd ih3 ho4 => ?_)
  refine v_iload_n X dX10_walk_11 1 1 rfl rfl ?_
  refine v_aload_n X dX10_walk_12 0 0 rfl rfl ?_
  refine t_getI X hd rfl fl_X10_429 dX10_walk_13 (fun v6 hd => ?_)
  refine v_icmp_ge (tgt := 51) X dX10_walk_16 (by decide) (fun q => ?_) (fun q => ?_)
  · have hd := Tite_t q hd
    exact v_loc [0, 1] rfl (t_at (P := fun (e5 : Int32) m => V K 2 (mkM am hn m) 51 [(0, .ref am), (1, .int e5)] []) (Tlp_out hd ho4) KX)
  · have hd := Tite_f q hd
    refine v_aload_n X dX10_walk_19 0 0 rfl rfl ?_
    refine v_aload_n X dX10_walk_20 0 0 rfl rfl ?_
    refine t_getA (j := 29) X rfl fl_X10_99 dX10_walk_21 ?_
    refine v_iload_n X dX10_walk_24 1 1 rfl rfl ?_
    refine t_iald (j := 29) X hd rfl dX10_walk_25 (fun v7 hd => ?_)
    refine t_callV X hK hd (ct_X10_isAct _ am v7) (lw_V q2164 q2166 qs80 q120 q2167) ⟨rfl, dn_X10_isAct⟩ rfl ⟨by decide, by decide⟩ rfl (Nat.le_of_ble_eq_true rfl) dX10_walk_26 (fun v8 ms hd => ?_)
    show V K 2 (mkM am hn ms) 29 [(0, .ref am), (1, .int s2)] [.int (b2i v8)]
    refine v_ifZ_eq (tgt := 51) X dX10_walk_29 (by decide) (fun q => ?_) (fun q => ?_)
    · have hd := Tcnd_f q hd
      exact v_loc [0, 1] rfl (t_at (P := fun (e5 : Int32) m => V K 2 (mkM am hn m) 51 [(0, .ref am), (1, .int e5)] []) (Tlp_out hd ho4) KX)
    · have hd := Tcnd_t q hd
      refine v_aload_n X dX10_walk_32 0 0 rfl rfl ?_
      refine v_aload_n X dX10_walk_33 0 0 rfl rfl ?_
      refine t_getA (j := 29) X rfl fl_X10_99 dX10_walk_34 ?_
      refine v_iload_n X dX10_walk_37 1 1 rfl rfl ?_
      refine t_iald (j := 29) X hd rfl dX10_walk_38 (fun v9 hd => ?_)
      refine t_callV X hK hd (ct_X10_minute _ am v9) (lw_V q2168 q2170 qs81 q120 q2171) ⟨rfl, dn_X10_minute⟩ rfl ⟨by decide, by decide⟩ rfl (Nat.le_of_ble_eq_true rfl) dX10_walk_39 (fun v10 ms hd => ?_)
      show V K 2 (mkM am hn ms) 42 [(0, .ref am), (1, .int s2)] [.int v10]
      refine v_if_ne (tgt := 51) X dX10_walk_42 (by decide) (fun q => ?_) (fun q => ?_)
      · have hd := Tite_f q hd
        exact v_loc [0, 1] rfl (t_at (P := fun (e5 : Int32) m => V K 2 (mkM am hn m) 51 [(0, .ref am), (1, .int e5)] []) (Tlp_out hd ho4) KX)
      · have hd := Tite_t q hd
        refine t_iincL (lv2 := fun v11 => [(1, .int v11), (0, .ref am)]) X hd dX10_walk_45 1 rfl (by decide : Int32.ofInt 1 = 1) (by decide) (fun v11 => rfl) (fun v11 hd => ?_)
        refine v_goto (tgt := 11) X dX10_walk_48 (by decide) ?_
        exact v_loc [1, 0] rfl (Tlp_in (P := fun (s2 : Int32) m => V K 2 (mkM am hn m) 11 [(0, .ref am), (1, .int s2)] []) hd ih3)
def dkwX10_cell_2 : List UInt8 := [180, 0, 13, 16, 10, 16, 10, 28, 104, 96, 27, 96, 46, 172]
abbrev dktX10_cell_2 : List UInt8 := dkwX10_cell_2 ++ []
def dkwX10_cell_1 : List UInt8 := [17, 0, 210, 16, 10, 28, 104, 96, 27, 96, 46, 62, 29, 158, 0, 10, 16, 9, 29, 96, 167, 0, 17, 42]
abbrev dktX10_cell_1 : List UInt8 := dkwX10_cell_1 ++ dktX10_cell_2
def dkwX10_cell_0 : List UInt8 := [42, 3, 181, 0, 108, 42, 182, 0, 200, 42, 27, 28, 182, 1, 2, 154, 0, 5, 2, 172, 42, 180, 0, 13]
abbrev dktX10_cell_0 : List UInt8 := dkwX10_cell_0 ++ dktX10_cell_1
theorem dksX10_cell_0 : cX10_cell.data.toList.drop 0 = dktX10_cell_0 := by decide +kernel
theorem dksX10_cell_1 : cX10_cell.data.toList.drop 24 = dktX10_cell_1 := dk_seg dksX10_cell_0 24 rfl rfl
theorem dksX10_cell_2 : cX10_cell.data.toList.drop 48 = dktX10_cell_2 := dk_seg dksX10_cell_1 24 rfl rfl
theorem dX10_cell_0 : decode cX10_cell 0 = .ok (.aload_n 0, 1) := dk_42 (dk_at dksX10_cell_0 0 rfl rfl)
theorem dX10_cell_1 : decode cX10_cell 1 = .ok (.iconst 0, 1) := dk_3 (dk_at dksX10_cell_0 1 rfl rfl)
theorem dX10_cell_2 : decode cX10_cell 2 = .ok (.putfield 108, 3) := dk_181 0 108 (dk_at dksX10_cell_0 2 rfl rfl)
theorem dX10_cell_5 : decode cX10_cell 5 = .ok (.aload_n 0, 1) := dk_42 (dk_at dksX10_cell_0 5 rfl rfl)
theorem dX10_cell_6 : decode cX10_cell 6 = .ok (.invokevirtual 200, 3) := dk_182 0 200 (dk_at dksX10_cell_0 6 rfl rfl)
theorem dX10_cell_9 : decode cX10_cell 9 = .ok (.aload_n 0, 1) := dk_42 (dk_at dksX10_cell_0 9 rfl rfl)
theorem dX10_cell_10 : decode cX10_cell 10 = .ok (.iload_n 1, 1) := dk_27 (dk_at dksX10_cell_0 10 rfl rfl)
theorem dX10_cell_11 : decode cX10_cell 11 = .ok (.iload_n 2, 1) := dk_28 (dk_at dksX10_cell_0 11 rfl rfl)
theorem dX10_cell_12 : decode cX10_cell 12 = .ok (.invokevirtual 258, 3) := dk_182 1 2 (dk_at dksX10_cell_0 12 rfl rfl)
theorem dX10_cell_15 : decode cX10_cell 15 = .ok (.ifCond .ne 5, 3) := dk_154 0 5 (dk_at dksX10_cell_0 15 rfl rfl)
theorem dX10_cell_18 : decode cX10_cell 18 = .ok (.iconst (-1), 1) := dk_2 (dk_at dksX10_cell_0 18 rfl rfl)
theorem dX10_cell_19 : decode cX10_cell 19 = .ok (.ireturn, 1) := dk_172 (dk_at dksX10_cell_0 19 rfl rfl)
theorem dX10_cell_20 : decode cX10_cell 20 = .ok (.aload_n 0, 1) := dk_42 (dk_at dksX10_cell_0 20 rfl rfl)
theorem dX10_cell_21 : decode cX10_cell 21 = .ok (.getfield 13, 3) := dk_180 0 13 (dk_at dksX10_cell_0 21 rfl rfl)
theorem dX10_cell_24 : decode cX10_cell 24 = .ok (.sipush 210, 3) := dk_17 0 210 (dk_at dksX10_cell_1 0 rfl rfl)
theorem dX10_cell_27 : decode cX10_cell 27 = .ok (.bipush 10, 2) := dk_16 10 (dk_at dksX10_cell_1 3 rfl rfl)
theorem dX10_cell_29 : decode cX10_cell 29 = .ok (.iload_n 2, 1) := dk_28 (dk_at dksX10_cell_1 5 rfl rfl)
theorem dX10_cell_30 : decode cX10_cell 30 = .ok (.imul, 1) := dk_104 (dk_at dksX10_cell_1 6 rfl rfl)
theorem dX10_cell_31 : decode cX10_cell 31 = .ok (.iadd, 1) := dk_96 (dk_at dksX10_cell_1 7 rfl rfl)
theorem dX10_cell_32 : decode cX10_cell 32 = .ok (.iload_n 1, 1) := dk_27 (dk_at dksX10_cell_1 8 rfl rfl)
theorem dX10_cell_33 : decode cX10_cell 33 = .ok (.iadd, 1) := dk_96 (dk_at dksX10_cell_1 9 rfl rfl)
theorem dX10_cell_34 : decode cX10_cell 34 = .ok (.iaload, 1) := dk_46 (dk_at dksX10_cell_1 10 rfl rfl)
theorem dX10_cell_35 : decode cX10_cell 35 = .ok (.istore_n 3, 1) := dk_62 (dk_at dksX10_cell_1 11 rfl rfl)
theorem dX10_cell_36 : decode cX10_cell 36 = .ok (.iload_n 3, 1) := dk_29 (dk_at dksX10_cell_1 12 rfl rfl)
theorem dX10_cell_37 : decode cX10_cell 37 = .ok (.ifCond .le 10, 3) := dk_158 0 10 (dk_at dksX10_cell_1 13 rfl rfl)
theorem dX10_cell_40 : decode cX10_cell 40 = .ok (.bipush 9, 2) := dk_16 9 (dk_at dksX10_cell_1 16 rfl rfl)
theorem dX10_cell_42 : decode cX10_cell 42 = .ok (.iload_n 3, 1) := dk_29 (dk_at dksX10_cell_1 18 rfl rfl)
theorem dX10_cell_43 : decode cX10_cell 43 = .ok (.iadd, 1) := dk_96 (dk_at dksX10_cell_1 19 rfl rfl)
theorem dX10_cell_44 : decode cX10_cell 44 = .ok (.goto 17, 3) := dk_167 0 17 (dk_at dksX10_cell_1 20 rfl rfl)
theorem dX10_cell_47 : decode cX10_cell 47 = .ok (.aload_n 0, 1) := dk_42 (dk_at dksX10_cell_1 23 rfl rfl)
theorem dX10_cell_48 : decode cX10_cell 48 = .ok (.getfield 13, 3) := dk_180 0 13 (dk_at dksX10_cell_2 0 rfl rfl)
theorem dX10_cell_51 : decode cX10_cell 51 = .ok (.bipush 10, 2) := dk_16 10 (dk_at dksX10_cell_2 3 rfl rfl)
theorem dX10_cell_53 : decode cX10_cell 53 = .ok (.bipush 10, 2) := dk_16 10 (dk_at dksX10_cell_2 5 rfl rfl)
theorem dX10_cell_55 : decode cX10_cell 55 = .ok (.iload_n 2, 1) := dk_28 (dk_at dksX10_cell_2 7 rfl rfl)
theorem dX10_cell_56 : decode cX10_cell 56 = .ok (.imul, 1) := dk_104 (dk_at dksX10_cell_2 8 rfl rfl)
theorem dX10_cell_57 : decode cX10_cell 57 = .ok (.iadd, 1) := dk_96 (dk_at dksX10_cell_2 9 rfl rfl)
theorem dX10_cell_58 : decode cX10_cell 58 = .ok (.iload_n 1, 1) := dk_27 (dk_at dksX10_cell_2 10 rfl rfl)
theorem dX10_cell_59 : decode cX10_cell 59 = .ok (.iadd, 1) := dk_96 (dk_at dksX10_cell_2 11 rfl rfl)
theorem dX10_cell_60 : decode cX10_cell 60 = .ok (.iaload, 1) := dk_46 (dk_at dksX10_cell_2 12 rfl rfl)
theorem dX10_cell_61 : decode cX10_cell 61 = .ok (.ireturn, 1) := dk_172 (dk_at dksX10_cell_2 13 rfl rfl)
theorem dn_X10_cell : yX10_cell.cls ≠ "java/lang/invoke/MethodHandle" ∧ yX10_cell.cls ≠ "java/lang/invoke/VarHandle" ∧ (parseMethodDescriptor yX10_cell.desc).map (fun d => d.parameters.length) = some 2 := by decide +kernel
noncomputable def M_X10_cell (p1 : Int32) (p2 : Int32) : TM Int32 := TM.bind (sI 0 0) (fun _ => TM.bind (M_X10_lay) (fun v1 => TM.bind (M_X10_isCell p1 p2) (fun v2 => cond v2 (TM.bind (tA 14 704 ((210 + (10 * p2)) + p1)) (fun v3 => TM.bind ((if v3 ≤ 0 then TM.bind (tA 14 704 ((10 + (10 * p2)) + p1)) (fun v5 => TM.pure v5) else TM.pure (9 + v3) : TM (Int32))) (fun u4 => TM.pure u4))) (TM.pure (-1)))))
set_option maxHeartbeats 4000000 in
theorem ct_X10_cell (G : gG) (am : Nat) (p1 : Int32) (p2 : Int32) : gCtM G am yX10_cell cX10_cell 4 (some .int) 1 22 [.ref am, .int p1, .int p2] (M_X10_cell p1 p2) (fun x : Int32 => some (.int x)) := by
  refine gCtM.of (by decide) (Nat.le_of_ble_eq_true rfl) (fun K hn ms ms' r hG X hK hd ho => ?_)
  subst hG
  have X : gX K cX10_cell 4 "BitingDoorsModel" "cell" (some .int) 1 22 := X
  show V K 4 (mkM am hn ms) 0 [(0, .ref am), (1, .int p1), (2, .int p2)] []
  unfold M_X10_cell at hd
  refine v_aload_n X dX10_cell_0 0 0 rfl rfl ?_
  refine v_iconst (v := 0) X dX10_cell_1 (by decide) ?_
  refine t_putI X hd rfl fp_X10_108 dX10_cell_2 (fun ms hd => ?_)
  refine v_aload_n X dX10_cell_5 0 0 rfl rfl ?_
  refine t_callV X hK hd (ct_X10_lay _ am) (lw_V q1868 q1870 qs37 q120 q1871) ⟨rfl, dn_X10_lay⟩ rfl ⟨by decide, by decide⟩ rfl (Nat.le_of_ble_eq_true rfl) dX10_cell_6 (fun v1 ms hd => ?_)
  show V K 4 (mkM am hn ms) 9 [(0, .ref am), (1, .int p1), (2, .int p2)] []
  refine v_aload_n X dX10_cell_9 0 0 rfl rfl ?_
  refine v_iload_n X dX10_cell_10 1 1 rfl rfl ?_
  refine v_iload_n X dX10_cell_11 2 2 rfl rfl ?_
  refine t_callV X hK hd (ct_X10_isCell _ am p1 p2) (lw_V q1974 q1976 qs55 q120 q1977) ⟨rfl, dn_X10_isCell⟩ rfl ⟨by decide, by decide⟩ rfl (Nat.le_of_ble_eq_true rfl) dX10_cell_12 (fun v2 ms hd => ?_)
  show V K 4 (mkM am hn ms) 15 [(0, .ref am), (1, .int p1), (2, .int p2)] [.int (b2i v2)]
  refine v_ifZ_ne (tgt := 20) X dX10_cell_15 (by decide) (fun q => ?_) (fun q => ?_)
  · have hd := Tcnd_t q hd
    refine v_aload_n X dX10_cell_20 0 0 rfl rfl ?_
    refine t_getA (j := 1) X rfl fl_X10_13 dX10_cell_21 ?_
    refine v_sipush (v := 210) X dX10_cell_24 (by decide) ?_
    refine v_bipush (v := 10) X dX10_cell_27 (by decide) ?_
    refine v_iload_n X dX10_cell_29 2 2 rfl rfl ?_
    refine v_imul X dX10_cell_30 ?_
    refine v_iadd X dX10_cell_31 ?_
    refine v_iload_n X dX10_cell_32 1 1 rfl rfl ?_
    refine v_iadd X dX10_cell_33 ?_
    refine t_iald (j := 1) X hd rfl dX10_cell_34 (fun v3 hd => ?_)
    refine v_istore_n (lv2 := [(3, .int v3), (0, .ref am), (1, .int p1), (2, .int p2)]) X dX10_cell_35 3 rfl (by decide) rfl ?_
    refine v_iload_n X dX10_cell_36 0 3 rfl rfl ?_
    obtain ⟨u4, m1, hd, hd2⟩ := TM.bind_some hd
    have KJ : V K 4 (mkM am hn m1) 61 [] [.int u4] := by
      clear hd
      have hd := hd2
      exact t_iret X hK hd ho dX10_cell_61
    clear hd2
    refine v_if_le (tgt := 47) X dX10_cell_37 (by decide) (fun q => ?_) (fun q => ?_)
    · have hd := Tite_t q hd
      refine v_aload_n X dX10_cell_47 1 0 rfl rfl ?_
      refine t_getA (j := 1) X rfl fl_X10_13 dX10_cell_48 ?_
      refine v_bipush (v := 10) X dX10_cell_51 (by decide) ?_
      refine v_bipush (v := 10) X dX10_cell_53 (by decide) ?_
      refine v_iload_n X dX10_cell_55 3 2 rfl rfl ?_
      refine v_imul X dX10_cell_56 ?_
      refine v_iadd X dX10_cell_57 ?_
      refine v_iload_n X dX10_cell_58 2 1 rfl rfl ?_
      refine v_iadd X dX10_cell_59 ?_
      refine t_iald (j := 1) X hd rfl dX10_cell_60 (fun v5 hd => ?_)
      exact v_loc [] rfl (t_at (P := fun (u4 : Int32) m => V K 4 (mkM am hn m) 61 [] [.int u4]) hd KJ)
    · have hd := Tite_f q hd
      refine v_bipush (v := 9) X dX10_cell_40 (by decide) ?_
      refine v_iload_n X dX10_cell_42 0 3 rfl rfl ?_
      refine v_iadd X dX10_cell_43 ?_
      refine v_goto (tgt := 61) X dX10_cell_44 (by decide) ?_
      exact v_loc [] rfl (t_at (P := fun (u4 : Int32) m => V K 4 (mkM am hn m) 61 [] [.int u4]) hd KJ)
  · have hd := Tcnd_f q hd
    refine v_iconst (v := (-1)) X dX10_cell_18 (by decide) ?_
    exact t_iret X hK hd ho dX10_cell_19
def dkwX10_day_3 : List UInt8 := [180, 0, 13, 17, 1, 85, 42, 180, 1, 137, 79, 42, 180, 1, 137, 172]
abbrev dktX10_day_3 : List UInt8 := dkwX10_day_3 ++ []
def dkwX10_day_2 : List UInt8 := [180, 0, 13, 17, 1, 86, 27, 96, 42, 180, 0, 19, 27, 46, 79, 132, 1, 1, 167, 255, 227, 42]
abbrev dktX10_day_2 : List UInt8 := dkwX10_day_2 ++ dktX10_day_3
def dkwX10_day_1 : List UInt8 := [154, 255, 245, 2, 42, 180, 0, 181, 100, 172, 3, 60, 27, 5, 42, 180, 1, 137, 104, 162, 0, 25, 42]
abbrev dktX10_day_1 : List UInt8 := dkwX10_day_1 ++ dktX10_day_2
def dkwX10_day_0 : List UInt8 := [42, 17, 2, 88, 182, 0, 249, 42, 3, 181, 1, 137, 42, 180, 0, 131, 153, 0, 17, 42, 182, 1, 140]
abbrev dktX10_day_0 : List UInt8 := dkwX10_day_0 ++ dktX10_day_1
theorem dksX10_day_0 : cX10_day.data.toList.drop 0 = dktX10_day_0 := by decide +kernel
theorem dksX10_day_1 : cX10_day.data.toList.drop 23 = dktX10_day_1 := dk_seg dksX10_day_0 23 rfl rfl
theorem dksX10_day_2 : cX10_day.data.toList.drop 46 = dktX10_day_2 := dk_seg dksX10_day_1 23 rfl rfl
theorem dksX10_day_3 : cX10_day.data.toList.drop 68 = dktX10_day_3 := dk_seg dksX10_day_2 22 rfl rfl
theorem dX10_day_0 : decode cX10_day 0 = .ok (.aload_n 0, 1) := dk_42 (dk_at dksX10_day_0 0 rfl rfl)
theorem dX10_day_1 : decode cX10_day 1 = .ok (.sipush 600, 3) := dk_17 2 88 (dk_at dksX10_day_0 1 rfl rfl)
theorem dX10_day_4 : decode cX10_day 4 = .ok (.invokevirtual 249, 3) := dk_182 0 249 (dk_at dksX10_day_0 4 rfl rfl)
theorem dX10_day_7 : decode cX10_day 7 = .ok (.aload_n 0, 1) := dk_42 (dk_at dksX10_day_0 7 rfl rfl)
theorem dX10_day_8 : decode cX10_day 8 = .ok (.iconst 0, 1) := dk_3 (dk_at dksX10_day_0 8 rfl rfl)
theorem dX10_day_9 : decode cX10_day 9 = .ok (.putfield 393, 3) := dk_181 1 137 (dk_at dksX10_day_0 9 rfl rfl)
theorem dX10_day_12 : decode cX10_day 12 = .ok (.aload_n 0, 1) := dk_42 (dk_at dksX10_day_0 12 rfl rfl)
theorem dX10_day_13 : decode cX10_day 13 = .ok (.getfield 131, 3) := dk_180 0 131 (dk_at dksX10_day_0 13 rfl rfl)
theorem dX10_day_16 : decode cX10_day 16 = .ok (.ifCond .eq 17, 3) := dk_153 0 17 (dk_at dksX10_day_0 16 rfl rfl)
theorem dX10_day_19 : decode cX10_day 19 = .ok (.aload_n 0, 1) := dk_42 (dk_at dksX10_day_0 19 rfl rfl)
theorem dX10_day_20 : decode cX10_day 20 = .ok (.invokevirtual 396, 3) := dk_182 1 140 (dk_at dksX10_day_0 20 rfl rfl)
theorem dX10_day_23 : decode cX10_day 23 = .ok (.ifCond .ne (-11), 3) := dk_154 255 245 (dk_at dksX10_day_1 0 rfl rfl)
theorem dX10_day_26 : decode cX10_day 26 = .ok (.iconst (-1), 1) := dk_2 (dk_at dksX10_day_1 3 rfl rfl)
theorem dX10_day_27 : decode cX10_day 27 = .ok (.aload_n 0, 1) := dk_42 (dk_at dksX10_day_1 4 rfl rfl)
theorem dX10_day_28 : decode cX10_day 28 = .ok (.getfield 181, 3) := dk_180 0 181 (dk_at dksX10_day_1 5 rfl rfl)
theorem dX10_day_31 : decode cX10_day 31 = .ok (.isub, 1) := dk_100 (dk_at dksX10_day_1 8 rfl rfl)
theorem dX10_day_32 : decode cX10_day 32 = .ok (.ireturn, 1) := dk_172 (dk_at dksX10_day_1 9 rfl rfl)
theorem dX10_day_33 : decode cX10_day 33 = .ok (.iconst 0, 1) := dk_3 (dk_at dksX10_day_1 10 rfl rfl)
theorem dX10_day_34 : decode cX10_day 34 = .ok (.istore_n 1, 1) := dk_60 (dk_at dksX10_day_1 11 rfl rfl)
theorem dX10_day_35 : decode cX10_day 35 = .ok (.iload_n 1, 1) := dk_27 (dk_at dksX10_day_1 12 rfl rfl)
theorem dX10_day_36 : decode cX10_day 36 = .ok (.iconst 2, 1) := dk_5 (dk_at dksX10_day_1 13 rfl rfl)
theorem dX10_day_37 : decode cX10_day 37 = .ok (.aload_n 0, 1) := dk_42 (dk_at dksX10_day_1 14 rfl rfl)
theorem dX10_day_38 : decode cX10_day 38 = .ok (.getfield 393, 3) := dk_180 1 137 (dk_at dksX10_day_1 15 rfl rfl)
theorem dX10_day_41 : decode cX10_day 41 = .ok (.imul, 1) := dk_104 (dk_at dksX10_day_1 18 rfl rfl)
theorem dX10_day_42 : decode cX10_day 42 = .ok (.if_icmp .ge 25, 3) := dk_162 0 25 (dk_at dksX10_day_1 19 rfl rfl)
theorem dX10_day_45 : decode cX10_day 45 = .ok (.aload_n 0, 1) := dk_42 (dk_at dksX10_day_1 22 rfl rfl)
theorem dX10_day_46 : decode cX10_day 46 = .ok (.getfield 13, 3) := dk_180 0 13 (dk_at dksX10_day_2 0 rfl rfl)
theorem dX10_day_49 : decode cX10_day 49 = .ok (.sipush 342, 3) := dk_17 1 86 (dk_at dksX10_day_2 3 rfl rfl)
theorem dX10_day_52 : decode cX10_day 52 = .ok (.iload_n 1, 1) := dk_27 (dk_at dksX10_day_2 6 rfl rfl)
theorem dX10_day_53 : decode cX10_day 53 = .ok (.iadd, 1) := dk_96 (dk_at dksX10_day_2 7 rfl rfl)
theorem dX10_day_54 : decode cX10_day 54 = .ok (.aload_n 0, 1) := dk_42 (dk_at dksX10_day_2 8 rfl rfl)
theorem dX10_day_55 : decode cX10_day 55 = .ok (.getfield 19, 3) := dk_180 0 19 (dk_at dksX10_day_2 9 rfl rfl)
theorem dX10_day_58 : decode cX10_day 58 = .ok (.iload_n 1, 1) := dk_27 (dk_at dksX10_day_2 12 rfl rfl)
theorem dX10_day_59 : decode cX10_day 59 = .ok (.iaload, 1) := dk_46 (dk_at dksX10_day_2 13 rfl rfl)
theorem dX10_day_60 : decode cX10_day 60 = .ok (.iastore, 1) := dk_79 (dk_at dksX10_day_2 14 rfl rfl)
theorem dX10_day_61 : decode cX10_day 61 = .ok (.iinc 1 1, 3) := dk_132 1 1 (dk_at dksX10_day_2 15 rfl rfl)
theorem dX10_day_64 : decode cX10_day 64 = .ok (.goto (-29), 3) := dk_167 255 227 (dk_at dksX10_day_2 18 rfl rfl)
theorem dX10_day_67 : decode cX10_day 67 = .ok (.aload_n 0, 1) := dk_42 (dk_at dksX10_day_2 21 rfl rfl)
theorem dX10_day_68 : decode cX10_day 68 = .ok (.getfield 13, 3) := dk_180 0 13 (dk_at dksX10_day_3 0 rfl rfl)
theorem dX10_day_71 : decode cX10_day 71 = .ok (.sipush 341, 3) := dk_17 1 85 (dk_at dksX10_day_3 3 rfl rfl)
theorem dX10_day_74 : decode cX10_day 74 = .ok (.aload_n 0, 1) := dk_42 (dk_at dksX10_day_3 6 rfl rfl)
theorem dX10_day_75 : decode cX10_day 75 = .ok (.getfield 393, 3) := dk_180 1 137 (dk_at dksX10_day_3 7 rfl rfl)
theorem dX10_day_78 : decode cX10_day 78 = .ok (.iastore, 1) := dk_79 (dk_at dksX10_day_3 10 rfl rfl)
theorem dX10_day_79 : decode cX10_day 79 = .ok (.aload_n 0, 1) := dk_42 (dk_at dksX10_day_3 11 rfl rfl)
theorem dX10_day_80 : decode cX10_day 80 = .ok (.getfield 393, 3) := dk_180 1 137 (dk_at dksX10_day_3 12 rfl rfl)
theorem dX10_day_83 : decode cX10_day 83 = .ok (.ireturn, 1) := dk_172 (dk_at dksX10_day_3 15 rfl rfl)
theorem dn_X10_day : yX10_day.cls ≠ "java/lang/invoke/MethodHandle" ∧ yX10_day.cls ≠ "java/lang/invoke/VarHandle" ∧ (parseMethodDescriptor yX10_day.desc).map (fun d => d.parameters.length) = some 0 := by decide +kernel
noncomputable def M_X10_day  : TM Int32 := TM.bind (M_X10_begin 600) (fun v1 => TM.bind (sI 47 0) (fun _ => TM.loop (S := Unit) (fun s2 => TM.bind (tI 7) (fun v5 => if v5 = 0 then TM.bind (TM.loop (S := Int32) (E := Unit) (fun s6 => TM.bind (tI 47) (fun v10 => if (2 * v10) ≤ s6 then TM.pure (Sum.inr ()) else TM.bind (tA 16 120 s6) (fun v11 => TM.bind (sA 14 704 (342 + s6) v11) (fun _ => TM.lv (s6 + 1) (fun v12 => TM.pure (Sum.inl v12)))))) 0) (fun e9 => TM.bind (tI 47) (fun v13 => TM.bind (sA 14 704 341 v13) (fun _ => TM.bind (tI 47) (fun v14 => TM.pure (Sum.inr v14))))) else TM.bind (M_X10_readDayLine) (fun v15 => cond v15 (TM.pure (Sum.inl ())) (TM.bind (tI 11) (fun v16 => TM.pure (Sum.inr ((-1) - v16))))))) ()))
set_option maxHeartbeats 4000000 in
theorem ct_X10_day (G : gG) (am : Nat)  : gCtM G am yX10_day cX10_day 2 (some .int) 4 92 [.ref am] (M_X10_day) (fun x : Int32 => some (.int x)) := by
  refine gCtM.of (by decide) (Nat.le_of_ble_eq_true rfl) (fun K hn ms ms' r hG X hK hd ho => ?_)
  subst hG
  have X : gX K cX10_day 2 "BitingDoorsModel" "day" (some .int) 4 92 := X
  show V K 2 (mkM am hn ms) 0 [(0, .ref am)] []
  unfold M_X10_day at hd
  refine v_aload_n X dX10_day_0 0 0 rfl rfl ?_
  refine v_sipush (v := 600) X dX10_day_1 (by decide) ?_
  refine t_callV X hK hd (ct_X10_begin _ am 600) (lw_V q1864 q1866 qs36 q120 q1867) ⟨rfl, dn_X10_begin⟩ rfl ⟨by decide, by decide⟩ rfl (Nat.le_of_ble_eq_true rfl) dX10_day_4 (fun v1 ms hd => ?_)
  show V K 2 (mkM am hn ms) 7 [(0, .ref am)] []
  refine v_aload_n X dX10_day_7 0 0 rfl rfl ?_
  refine v_iconst (v := 0) X dX10_day_8 (by decide) ?_
  refine t_putI X hd rfl fp_X10_393 dX10_day_9 (fun ms hd => ?_)
  refine v_loc [0] rfl ?_
  refine Tloop_ind hd (fun (s2 : Unit) m => V K 2 (mkM am hn m) 12 [(0, .ref am)] []) (fun s2 ms x m2 hd ih3 ho4 => ?_)
  refine v_aload_n X dX10_day_12 0 0 rfl rfl ?_
  refine t_getI X hd rfl fl_X10_131 dX10_day_13 (fun v5 hd => ?_)
  refine v_if_eq (tgt := 33) X dX10_day_16 (by decide) (fun q => ?_) (fun q => ?_)
  · have hd := Tite_t q hd
    refine v_iconst (v := 0) X dX10_day_33 (by decide) ?_
    refine v_istore_n (lv2 := [(1, .int 0), (0, .ref am)]) X dX10_day_34 1 rfl (by decide) rfl ?_
    obtain ⟨e9, m1, hd, hd2⟩ := TM.bind_some hd
    have KX : V K 2 (mkM am hn m1) 67 [(0, .ref am)] [] := by
      clear hd
      have hd := hd2
      refine v_aload_n X dX10_day_67 0 0 rfl rfl ?_
      refine t_getA (j := 1) X rfl fl_X10_13 dX10_day_68 ?_
      refine v_sipush (v := 341) X dX10_day_71 (by decide) ?_
      refine v_aload_n X dX10_day_74 0 0 rfl rfl ?_
      refine t_getI X hd rfl fl_X10_393 dX10_day_75 (fun v13 hd => ?_)
      refine t_iast (j := 1) X hd rfl dX10_day_78 (fun ms hd => ?_)
      refine v_aload_n X dX10_day_79 0 0 rfl rfl ?_
      refine t_getI X hd rfl fl_X10_393 dX10_day_80 (fun v14 hd => ?_)
      have hd := Tlp_out hd ho4
      exact t_iret X hK hd ho dX10_day_83
    clear hd2
    refine v_loc [1, 0] rfl ?_
    refine Tloop_ind hd (fun (s6 : Int32) m => V K 2 (mkM am hn m) 35 [(0, .ref am), (1, .int s6)] []) (fun s6 ms x m2 hd ih7 ho8 => ?_)
    refine v_iload_n X dX10_day_35 1 1 rfl rfl ?_
    refine v_iconst (v := 2) X dX10_day_36 (by decide) ?_
    refine v_aload_n X dX10_day_37 0 0 rfl rfl ?_
    refine t_getI X hd rfl fl_X10_393 dX10_day_38 (fun v10 hd => ?_)
    refine v_imul X dX10_day_41 ?_
    refine v_icmp_ge (tgt := 67) X dX10_day_42 (by decide) (fun q => ?_) (fun q => ?_)
    · have hd := Tite_t q hd
      exact v_loc [0] rfl (t_at (P := fun (e9 : Unit) m => V K 2 (mkM am hn m) 67 [(0, .ref am)] []) (Tlp_out hd ho8) KX)
    · have hd := Tite_f q hd
      refine v_aload_n X dX10_day_45 0 0 rfl rfl ?_
      refine t_getA (j := 1) X rfl fl_X10_13 dX10_day_46 ?_
      refine v_sipush (v := 342) X dX10_day_49 (by decide) ?_
      refine v_iload_n X dX10_day_52 1 1 rfl rfl ?_
      refine v_iadd X dX10_day_53 ?_
      refine v_aload_n X dX10_day_54 0 0 rfl rfl ?_
      refine t_getA (j := 3) X rfl fl_X10_19 dX10_day_55 ?_
      refine v_iload_n X dX10_day_58 1 1 rfl rfl ?_
      refine t_iald (j := 3) X hd rfl dX10_day_59 (fun v11 hd => ?_)
      refine t_iast (j := 1) X hd rfl dX10_day_60 (fun ms hd => ?_)
      refine t_iincL (lv2 := fun v12 => [(1, .int v12), (0, .ref am)]) X hd dX10_day_61 1 rfl (by decide : Int32.ofInt 1 = 1) (by decide) (fun v12 => rfl) (fun v12 hd => ?_)
      refine v_goto (tgt := 35) X dX10_day_64 (by decide) ?_
      exact v_loc [1, 0] rfl (Tlp_in (P := fun (s6 : Int32) m => V K 2 (mkM am hn m) 35 [(0, .ref am), (1, .int s6)] []) hd ih7)
  · have hd := Tite_f q hd
    refine v_aload_n X dX10_day_19 0 0 rfl rfl ?_
    refine t_callV X hK hd (ct_X10_readDayLine _ am) (lw_V q2204 q2206 qs88 q120 q2207) ⟨rfl, dn_X10_readDayLine⟩ rfl ⟨by decide, by decide⟩ rfl (Nat.le_of_ble_eq_true rfl) dX10_day_20 (fun v15 ms hd => ?_)
    show V K 2 (mkM am hn ms) 23 [(0, .ref am)] [.int (b2i v15)]
    refine v_ifZ_ne (tgt := 12) X dX10_day_23 (by decide) (fun q => ?_) (fun q => ?_)
    · have hd := Tcnd_t q hd
      exact v_loc [0] rfl (Tlp_in (P := fun (s2 : Unit) m => V K 2 (mkM am hn m) 12 [(0, .ref am)] []) hd ih3)
    · have hd := Tcnd_f q hd
      refine v_iconst (v := (-1)) X dX10_day_26 (by decide) ?_
      refine v_aload_n X dX10_day_27 0 0 rfl rfl ?_
      refine t_getI X hd rfl fl_X10_181 dX10_day_28 (fun v16 hd => ?_)
      refine v_isub X dX10_day_31 ?_
      have hd := Tlp_out hd ho4
      exact t_iret X hK hd ho dX10_day_32
def dkwX10_restore_3 : List UInt8 := [180, 0, 25, 28, 42, 180, 0, 32, 16, 10, 27, 104, 28, 96, 47, 80, 132, 2, 1, 167, 255, 230, 4, 172]
abbrev dktX10_restore_3 : List UInt8 := dkwX10_restore_3 ++ []
def dkwX10_restore_2 : List UInt8 := [17, 2, 192, 27, 104, 28, 96, 46, 79, 132, 2, 1, 167, 255, 228, 3, 61, 28, 16, 10, 162, 0, 26, 42]
abbrev dktX10_restore_2 : List UInt8 := dkwX10_restore_2 ++ dktX10_restore_3
def dkwX10_restore_1 : List UInt8 := [154, 0, 5, 3, 172, 3, 61, 28, 17, 2, 192, 162, 0, 27, 42, 180, 0, 13, 28, 42, 180, 0, 22]
abbrev dktX10_restore_1 : List UInt8 := dkwX10_restore_1 ++ dktX10_restore_2
def dkwX10_restore_0 : List UInt8 := [42, 3, 181, 0, 108, 42, 182, 0, 200, 27, 3, 4, 184, 0, 187, 153, 0, 12, 42, 180, 0, 35, 27, 51]
abbrev dktX10_restore_0 : List UInt8 := dkwX10_restore_0 ++ dktX10_restore_1
theorem dksX10_restore_0 : cX10_restore.data.toList.drop 0 = dktX10_restore_0 := by decide +kernel
theorem dksX10_restore_1 : cX10_restore.data.toList.drop 24 = dktX10_restore_1 := dk_seg dksX10_restore_0 24 rfl rfl
theorem dksX10_restore_2 : cX10_restore.data.toList.drop 47 = dktX10_restore_2 := dk_seg dksX10_restore_1 23 rfl rfl
theorem dksX10_restore_3 : cX10_restore.data.toList.drop 71 = dktX10_restore_3 := dk_seg dksX10_restore_2 24 rfl rfl
theorem dX10_restore_0 : decode cX10_restore 0 = .ok (.aload_n 0, 1) := dk_42 (dk_at dksX10_restore_0 0 rfl rfl)
theorem dX10_restore_1 : decode cX10_restore 1 = .ok (.iconst 0, 1) := dk_3 (dk_at dksX10_restore_0 1 rfl rfl)
theorem dX10_restore_2 : decode cX10_restore 2 = .ok (.putfield 108, 3) := dk_181 0 108 (dk_at dksX10_restore_0 2 rfl rfl)
theorem dX10_restore_5 : decode cX10_restore 5 = .ok (.aload_n 0, 1) := dk_42 (dk_at dksX10_restore_0 5 rfl rfl)
theorem dX10_restore_6 : decode cX10_restore 6 = .ok (.invokevirtual 200, 3) := dk_182 0 200 (dk_at dksX10_restore_0 6 rfl rfl)
theorem dX10_restore_9 : decode cX10_restore 9 = .ok (.iload_n 1, 1) := dk_27 (dk_at dksX10_restore_0 9 rfl rfl)
theorem dX10_restore_10 : decode cX10_restore 10 = .ok (.iconst 0, 1) := dk_3 (dk_at dksX10_restore_0 10 rfl rfl)
theorem dX10_restore_11 : decode cX10_restore 11 = .ok (.iconst 1, 1) := dk_4 (dk_at dksX10_restore_0 11 rfl rfl)
theorem dX10_restore_12 : decode cX10_restore 12 = .ok (.invokestatic 187, 3) := dk_184 0 187 (dk_at dksX10_restore_0 12 rfl rfl)
theorem dX10_restore_15 : decode cX10_restore 15 = .ok (.ifCond .eq 12, 3) := dk_153 0 12 (dk_at dksX10_restore_0 15 rfl rfl)
theorem dX10_restore_18 : decode cX10_restore 18 = .ok (.aload_n 0, 1) := dk_42 (dk_at dksX10_restore_0 18 rfl rfl)
theorem dX10_restore_19 : decode cX10_restore 19 = .ok (.getfield 35, 3) := dk_180 0 35 (dk_at dksX10_restore_0 19 rfl rfl)
theorem dX10_restore_22 : decode cX10_restore 22 = .ok (.iload_n 1, 1) := dk_27 (dk_at dksX10_restore_0 22 rfl rfl)
theorem dX10_restore_23 : decode cX10_restore 23 = .ok (.baload, 1) := dk_51 (dk_at dksX10_restore_0 23 rfl rfl)
theorem dX10_restore_24 : decode cX10_restore 24 = .ok (.ifCond .ne 5, 3) := dk_154 0 5 (dk_at dksX10_restore_1 0 rfl rfl)
theorem dX10_restore_27 : decode cX10_restore 27 = .ok (.iconst 0, 1) := dk_3 (dk_at dksX10_restore_1 3 rfl rfl)
theorem dX10_restore_28 : decode cX10_restore 28 = .ok (.ireturn, 1) := dk_172 (dk_at dksX10_restore_1 4 rfl rfl)
theorem dX10_restore_29 : decode cX10_restore 29 = .ok (.iconst 0, 1) := dk_3 (dk_at dksX10_restore_1 5 rfl rfl)
theorem dX10_restore_30 : decode cX10_restore 30 = .ok (.istore_n 2, 1) := dk_61 (dk_at dksX10_restore_1 6 rfl rfl)
theorem dX10_restore_31 : decode cX10_restore 31 = .ok (.iload_n 2, 1) := dk_28 (dk_at dksX10_restore_1 7 rfl rfl)
theorem dX10_restore_32 : decode cX10_restore 32 = .ok (.sipush 704, 3) := dk_17 2 192 (dk_at dksX10_restore_1 8 rfl rfl)
theorem dX10_restore_35 : decode cX10_restore 35 = .ok (.if_icmp .ge 27, 3) := dk_162 0 27 (dk_at dksX10_restore_1 11 rfl rfl)
theorem dX10_restore_38 : decode cX10_restore 38 = .ok (.aload_n 0, 1) := dk_42 (dk_at dksX10_restore_1 14 rfl rfl)
theorem dX10_restore_39 : decode cX10_restore 39 = .ok (.getfield 13, 3) := dk_180 0 13 (dk_at dksX10_restore_1 15 rfl rfl)
theorem dX10_restore_42 : decode cX10_restore 42 = .ok (.iload_n 2, 1) := dk_28 (dk_at dksX10_restore_1 18 rfl rfl)
theorem dX10_restore_43 : decode cX10_restore 43 = .ok (.aload_n 0, 1) := dk_42 (dk_at dksX10_restore_1 19 rfl rfl)
theorem dX10_restore_44 : decode cX10_restore 44 = .ok (.getfield 22, 3) := dk_180 0 22 (dk_at dksX10_restore_1 20 rfl rfl)
theorem dX10_restore_47 : decode cX10_restore 47 = .ok (.sipush 704, 3) := dk_17 2 192 (dk_at dksX10_restore_2 0 rfl rfl)
theorem dX10_restore_50 : decode cX10_restore 50 = .ok (.iload_n 1, 1) := dk_27 (dk_at dksX10_restore_2 3 rfl rfl)
theorem dX10_restore_51 : decode cX10_restore 51 = .ok (.imul, 1) := dk_104 (dk_at dksX10_restore_2 4 rfl rfl)
theorem dX10_restore_52 : decode cX10_restore 52 = .ok (.iload_n 2, 1) := dk_28 (dk_at dksX10_restore_2 5 rfl rfl)
theorem dX10_restore_53 : decode cX10_restore 53 = .ok (.iadd, 1) := dk_96 (dk_at dksX10_restore_2 6 rfl rfl)
theorem dX10_restore_54 : decode cX10_restore 54 = .ok (.iaload, 1) := dk_46 (dk_at dksX10_restore_2 7 rfl rfl)
theorem dX10_restore_55 : decode cX10_restore 55 = .ok (.iastore, 1) := dk_79 (dk_at dksX10_restore_2 8 rfl rfl)
theorem dX10_restore_56 : decode cX10_restore 56 = .ok (.iinc 2 1, 3) := dk_132 2 1 (dk_at dksX10_restore_2 9 rfl rfl)
theorem dX10_restore_59 : decode cX10_restore 59 = .ok (.goto (-28), 3) := dk_167 255 228 (dk_at dksX10_restore_2 12 rfl rfl)
theorem dX10_restore_62 : decode cX10_restore 62 = .ok (.iconst 0, 1) := dk_3 (dk_at dksX10_restore_2 15 rfl rfl)
theorem dX10_restore_63 : decode cX10_restore 63 = .ok (.istore_n 2, 1) := dk_61 (dk_at dksX10_restore_2 16 rfl rfl)
theorem dX10_restore_64 : decode cX10_restore 64 = .ok (.iload_n 2, 1) := dk_28 (dk_at dksX10_restore_2 17 rfl rfl)
theorem dX10_restore_65 : decode cX10_restore 65 = .ok (.bipush 10, 2) := dk_16 10 (dk_at dksX10_restore_2 18 rfl rfl)
theorem dX10_restore_67 : decode cX10_restore 67 = .ok (.if_icmp .ge 26, 3) := dk_162 0 26 (dk_at dksX10_restore_2 20 rfl rfl)
theorem dX10_restore_70 : decode cX10_restore 70 = .ok (.aload_n 0, 1) := dk_42 (dk_at dksX10_restore_2 23 rfl rfl)
theorem dX10_restore_71 : decode cX10_restore 71 = .ok (.getfield 25, 3) := dk_180 0 25 (dk_at dksX10_restore_3 0 rfl rfl)
theorem dX10_restore_74 : decode cX10_restore 74 = .ok (.iload_n 2, 1) := dk_28 (dk_at dksX10_restore_3 3 rfl rfl)
theorem dX10_restore_75 : decode cX10_restore 75 = .ok (.aload_n 0, 1) := dk_42 (dk_at dksX10_restore_3 4 rfl rfl)
theorem dX10_restore_76 : decode cX10_restore 76 = .ok (.getfield 32, 3) := dk_180 0 32 (dk_at dksX10_restore_3 5 rfl rfl)
theorem dX10_restore_79 : decode cX10_restore 79 = .ok (.bipush 10, 2) := dk_16 10 (dk_at dksX10_restore_3 8 rfl rfl)
theorem dX10_restore_81 : decode cX10_restore 81 = .ok (.iload_n 1, 1) := dk_27 (dk_at dksX10_restore_3 10 rfl rfl)
theorem dX10_restore_82 : decode cX10_restore 82 = .ok (.imul, 1) := dk_104 (dk_at dksX10_restore_3 11 rfl rfl)
theorem dX10_restore_83 : decode cX10_restore 83 = .ok (.iload_n 2, 1) := dk_28 (dk_at dksX10_restore_3 12 rfl rfl)
theorem dX10_restore_84 : decode cX10_restore 84 = .ok (.iadd, 1) := dk_96 (dk_at dksX10_restore_3 13 rfl rfl)
theorem dX10_restore_85 : decode cX10_restore 85 = .ok (.laload, 1) := dk_47 (dk_at dksX10_restore_3 14 rfl rfl)
theorem dX10_restore_86 : decode cX10_restore 86 = .ok (.lastore, 1) := dk_80 (dk_at dksX10_restore_3 15 rfl rfl)
theorem dX10_restore_87 : decode cX10_restore 87 = .ok (.iinc 2 1, 3) := dk_132 2 1 (dk_at dksX10_restore_3 16 rfl rfl)
theorem dX10_restore_90 : decode cX10_restore 90 = .ok (.goto (-26), 3) := dk_167 255 230 (dk_at dksX10_restore_3 19 rfl rfl)
theorem dX10_restore_93 : decode cX10_restore 93 = .ok (.iconst 1, 1) := dk_4 (dk_at dksX10_restore_3 22 rfl rfl)
theorem dX10_restore_94 : decode cX10_restore 94 = .ok (.ireturn, 1) := dk_172 (dk_at dksX10_restore_3 23 rfl rfl)
theorem dn_X10_restore : yX10_restore.cls ≠ "java/lang/invoke/MethodHandle" ∧ yX10_restore.cls ≠ "java/lang/invoke/VarHandle" ∧ (parseMethodDescriptor yX10_restore.desc).map (fun d => d.parameters.length) = some 1 := by decide +kernel
noncomputable def M_X10_restore (p1 : Int32) : TM Bool := TM.bind (sI 0 0) (fun _ => TM.bind (M_X10_lay) (fun v1 => TM.bind (M_X10_isIn p1 0 1) (fun v2 => cond v2 (TM.bind (tA 21 2 p1) (fun v3 => if v3 = 0 then TM.pure false else TM.bind (TM.loop (S := Int32) (E := Unit) (fun s4 => if 704 ≤ s4 then TM.pure (Sum.inr ()) else TM.bind (tA 17 1408 ((704 * p1) + s4)) (fun v8 => TM.bind (sA 14 704 s4 v8) (fun _ => TM.lv (s4 + 1) (fun v9 => TM.pure (Sum.inl v9))))) 0) (fun e7 => TM.bind (TM.loop (S := Int32) (E := Unit) (fun s10 => if 10 ≤ s10 then TM.pure (Sum.inr ()) else TM.bind (tB 20 20 ((10 * p1) + s10)) (fun v14 => TM.bind (sB 18 10 s10 v14) (fun _ => TM.lv (s10 + 1) (fun v15 => TM.pure (Sum.inl v15))))) 0) (fun e13 => TM.pure true)))) (TM.pure false))))
set_option maxHeartbeats 4000000 in
theorem ct_X10_restore (G : gG) (am : Nat) (p1 : Int32) : gCtM G am yX10_restore cX10_restore 3 (some .boolean) 1 22 [.ref am, .int p1] (M_X10_restore p1) (fun x : Bool => some (.int (b2i x))) := by
  refine gCtM.of (by decide) (Nat.le_of_ble_eq_true rfl) (fun K hn ms ms' r hG X hK hd ho => ?_)
  subst hG
  have X : gX K cX10_restore 3 "BitingDoorsModel" "restore" (some .boolean) 1 22 := X
  show V K 3 (mkM am hn ms) 0 [(0, .ref am), (1, .int p1)] []
  unfold M_X10_restore at hd
  refine v_aload_n X dX10_restore_0 0 0 rfl rfl ?_
  refine v_iconst (v := 0) X dX10_restore_1 (by decide) ?_
  refine t_putI X hd rfl fp_X10_108 dX10_restore_2 (fun ms hd => ?_)
  refine v_aload_n X dX10_restore_5 0 0 rfl rfl ?_
  refine t_callV X hK hd (ct_X10_lay _ am) (lw_V q1868 q1870 qs37 q120 q1871) ⟨rfl, dn_X10_lay⟩ rfl ⟨by decide, by decide⟩ rfl (Nat.le_of_ble_eq_true rfl) dX10_restore_6 (fun v1 ms hd => ?_)
  show V K 3 (mkM am hn ms) 9 [(0, .ref am), (1, .int p1)] []
  refine v_iload_n X dX10_restore_9 1 1 rfl rfl ?_
  refine v_iconst (v := 0) X dX10_restore_10 (by decide) ?_
  refine v_iconst (v := 1) X dX10_restore_11 (by decide) ?_
  refine t_callS X hK hd (ct_X10_isIn _ am p1 0 1) (lw_S q1940 q1941 q120 q1942) dn_X10_isIn rfl ⟨by decide, by decide⟩ rfl (Nat.le_of_ble_eq_true rfl) dX10_restore_12 (fun v2 ms hd => ?_)
  show V K 3 (mkM am hn ms) 15 [(0, .ref am), (1, .int p1)] [.int (b2i v2)]
  refine v_ifZ_eq (tgt := 27) X dX10_restore_15 (by decide) (fun q => ?_) (fun q => ?_)
  · have hd := Tcnd_f q hd
    refine v_iconst (v := 0) X dX10_restore_27 (by decide) ?_
    exact t_zret X hK hd rfl ho dX10_restore_28
  · have hd := Tcnd_t q hd
    refine v_aload_n X dX10_restore_18 0 0 rfl rfl ?_
    refine t_getA (j := 8) X rfl fl_X10_35 dX10_restore_19 ?_
    refine v_iload_n X dX10_restore_22 1 1 rfl rfl ?_
    refine t_zald (j := 8) X hd rfl dX10_restore_23 (fun v3 hd => ?_)
    refine v_if_ne (tgt := 29) X dX10_restore_24 (by decide) (fun q => ?_) (fun q => ?_)
    · have hd := Tite_f q hd
      refine v_iconst (v := 0) X dX10_restore_29 (by decide) ?_
      refine v_istore_n (lv2 := [(2, .int 0), (0, .ref am), (1, .int p1)]) X dX10_restore_30 2 rfl (by decide) rfl ?_
      obtain ⟨e7, m1, hd, hd2⟩ := TM.bind_some hd
      have KX : V K 3 (mkM am hn m1) 62 [(0, .ref am), (1, .int p1)] [] := by
        clear hd
        have hd := hd2
        refine v_iconst (v := 0) X dX10_restore_62 (by decide) ?_
        refine v_istore_n (lv2 := [(2, .int 0), (0, .ref am), (1, .int p1)]) X dX10_restore_63 2 rfl (by decide) rfl ?_
        obtain ⟨e13, m1, hd, hd2⟩ := TM.bind_some hd
        have KX : V K 3 (mkM am hn m1) 93 [] [] := by
          clear hd
          have hd := hd2
          refine v_iconst (v := 1) X dX10_restore_93 (by decide) ?_
          exact t_zret X hK hd rfl ho dX10_restore_94
        clear hd2
        refine v_loc [1, 2, 0] rfl ?_
        refine Tloop_ind hd (fun (s10 : Int32) m => V K 3 (mkM am hn m) 64 [(0, .ref am), (1, .int p1), (2, .int s10)] []) (fun s10 ms x m2 hd ih11 ho12 => ?_)
        refine v_iload_n X dX10_restore_64 2 2 rfl rfl ?_
        refine v_bipush (v := 10) X dX10_restore_65 (by decide) ?_
        refine v_icmp_ge (tgt := 93) X dX10_restore_67 (by decide) (fun q => ?_) (fun q => ?_)
        · have hd := Tite_t q hd
          exact v_loc [] rfl (t_at (P := fun (e13 : Unit) m => V K 3 (mkM am hn m) 93 [] []) (Tlp_out hd ho12) KX)
        · have hd := Tite_f q hd
          refine v_aload_n X dX10_restore_70 0 0 rfl rfl ?_
          refine t_getA (j := 5) X rfl fl_X10_25 dX10_restore_71 ?_
          refine v_iload_n X dX10_restore_74 2 2 rfl rfl ?_
          refine v_aload_n X dX10_restore_75 0 0 rfl rfl ?_
          refine t_getA (j := 7) X rfl fl_X10_32 dX10_restore_76 ?_
          refine v_bipush (v := 10) X dX10_restore_79 (by decide) ?_
          refine v_iload_n X dX10_restore_81 1 1 rfl rfl ?_
          refine v_imul X dX10_restore_82 ?_
          refine v_iload_n X dX10_restore_83 2 2 rfl rfl ?_
          refine v_iadd X dX10_restore_84 ?_
          refine t_lald (j := 7) X hd rfl dX10_restore_85 (fun v14 hd => ?_)
          refine t_last (j := 5) X hd rfl dX10_restore_86 (fun ms hd => ?_)
          refine t_iincL (lv2 := fun v15 => [(2, .int v15), (0, .ref am), (1, .int p1)]) X hd dX10_restore_87 2 rfl (by decide : Int32.ofInt 1 = 1) (by decide) (fun v15 => rfl) (fun v15 hd => ?_)
          refine v_goto (tgt := 64) X dX10_restore_90 (by decide) ?_
          exact v_loc [1, 2, 0] rfl (Tlp_in (P := fun (s10 : Int32) m => V K 3 (mkM am hn m) 64 [(0, .ref am), (1, .int p1), (2, .int s10)] []) hd ih11)
      clear hd2
      refine v_loc [1, 2, 0] rfl ?_
      refine Tloop_ind hd (fun (s4 : Int32) m => V K 3 (mkM am hn m) 31 [(0, .ref am), (1, .int p1), (2, .int s4)] []) (fun s4 ms x m2 hd ih5 ho6 => ?_)
      refine v_iload_n X dX10_restore_31 2 2 rfl rfl ?_
      refine v_sipush (v := 704) X dX10_restore_32 (by decide) ?_
      refine v_icmp_ge (tgt := 62) X dX10_restore_35 (by decide) (fun q => ?_) (fun q => ?_)
      · have hd := Tite_t q hd
        exact v_loc [0, 1] rfl (t_at (P := fun (e7 : Unit) m => V K 3 (mkM am hn m) 62 [(0, .ref am), (1, .int p1)] []) (Tlp_out hd ho6) KX)
      · have hd := Tite_f q hd
        refine v_aload_n X dX10_restore_38 0 0 rfl rfl ?_
        refine t_getA (j := 1) X rfl fl_X10_13 dX10_restore_39 ?_
        refine v_iload_n X dX10_restore_42 2 2 rfl rfl ?_
        refine v_aload_n X dX10_restore_43 0 0 rfl rfl ?_
        refine t_getA (j := 4) X rfl fl_X10_22 dX10_restore_44 ?_
        refine v_sipush (v := 704) X dX10_restore_47 (by decide) ?_
        refine v_iload_n X dX10_restore_50 1 1 rfl rfl ?_
        refine v_imul X dX10_restore_51 ?_
        refine v_iload_n X dX10_restore_52 2 2 rfl rfl ?_
        refine v_iadd X dX10_restore_53 ?_
        refine t_iald (j := 4) X hd rfl dX10_restore_54 (fun v8 hd => ?_)
        refine t_iast (j := 1) X hd rfl dX10_restore_55 (fun ms hd => ?_)
        refine t_iincL (lv2 := fun v9 => [(2, .int v9), (0, .ref am), (1, .int p1)]) X hd dX10_restore_56 2 rfl (by decide : Int32.ofInt 1 = 1) (by decide) (fun v9 => rfl) (fun v9 hd => ?_)
        refine v_goto (tgt := 31) X dX10_restore_59 (by decide) ?_
        exact v_loc [1, 2, 0] rfl (Tlp_in (P := fun (s4 : Int32) m => V K 3 (mkM am hn m) 31 [(0, .ref am), (1, .int p1), (2, .int s4)] []) hd ih5)
    · have hd := Tite_t q hd
      refine v_iconst (v := 0) X dX10_restore_27 (by decide) ?_
      exact t_zret X hK hd rfl ho dX10_restore_28
def dkwX10_stand_2 : List UInt8 := [4, 172]
abbrev dktX10_stand_2 : List UInt8 := dkwX10_stand_2 ++ []
def dkwX10_stand_1 : List UInt8 := [28, 104, 27, 96, 46, 153, 0, 5, 3, 172, 42, 180, 0, 13, 17, 1, 84, 16, 10, 28, 104, 27, 96, 79]
abbrev dktX10_stand_1 : List UInt8 := dkwX10_stand_1 ++ dktX10_stand_2
def dkwX10_stand_0 : List UInt8 := [42, 3, 181, 0, 108, 42, 182, 1, 125, 42, 27, 28, 182, 1, 107, 153, 0, 17, 42, 180, 0, 81, 16, 10]
abbrev dktX10_stand_0 : List UInt8 := dkwX10_stand_0 ++ dktX10_stand_1
theorem dksX10_stand_0 : cX10_stand.data.toList.drop 0 = dktX10_stand_0 := by decide +kernel
theorem dksX10_stand_1 : cX10_stand.data.toList.drop 24 = dktX10_stand_1 := dk_seg dksX10_stand_0 24 rfl rfl
theorem dksX10_stand_2 : cX10_stand.data.toList.drop 48 = dktX10_stand_2 := dk_seg dksX10_stand_1 24 rfl rfl
theorem dX10_stand_0 : decode cX10_stand 0 = .ok (.aload_n 0, 1) := dk_42 (dk_at dksX10_stand_0 0 rfl rfl)
theorem dX10_stand_1 : decode cX10_stand 1 = .ok (.iconst 0, 1) := dk_3 (dk_at dksX10_stand_0 1 rfl rfl)
theorem dX10_stand_2 : decode cX10_stand 2 = .ok (.putfield 108, 3) := dk_181 0 108 (dk_at dksX10_stand_0 2 rfl rfl)
theorem dX10_stand_5 : decode cX10_stand 5 = .ok (.aload_n 0, 1) := dk_42 (dk_at dksX10_stand_0 5 rfl rfl)
theorem dX10_stand_6 : decode cX10_stand 6 = .ok (.invokevirtual 381, 3) := dk_182 1 125 (dk_at dksX10_stand_0 6 rfl rfl)
theorem dX10_stand_9 : decode cX10_stand 9 = .ok (.aload_n 0, 1) := dk_42 (dk_at dksX10_stand_0 9 rfl rfl)
theorem dX10_stand_10 : decode cX10_stand 10 = .ok (.iload_n 1, 1) := dk_27 (dk_at dksX10_stand_0 10 rfl rfl)
theorem dX10_stand_11 : decode cX10_stand 11 = .ok (.iload_n 2, 1) := dk_28 (dk_at dksX10_stand_0 11 rfl rfl)
theorem dX10_stand_12 : decode cX10_stand 12 = .ok (.invokevirtual 363, 3) := dk_182 1 107 (dk_at dksX10_stand_0 12 rfl rfl)
theorem dX10_stand_15 : decode cX10_stand 15 = .ok (.ifCond .eq 17, 3) := dk_153 0 17 (dk_at dksX10_stand_0 15 rfl rfl)
theorem dX10_stand_18 : decode cX10_stand 18 = .ok (.aload_n 0, 1) := dk_42 (dk_at dksX10_stand_0 18 rfl rfl)
theorem dX10_stand_19 : decode cX10_stand 19 = .ok (.getfield 81, 3) := dk_180 0 81 (dk_at dksX10_stand_0 19 rfl rfl)
theorem dX10_stand_22 : decode cX10_stand 22 = .ok (.bipush 10, 2) := dk_16 10 (dk_at dksX10_stand_0 22 rfl rfl)
theorem dX10_stand_24 : decode cX10_stand 24 = .ok (.iload_n 2, 1) := dk_28 (dk_at dksX10_stand_1 0 rfl rfl)
theorem dX10_stand_25 : decode cX10_stand 25 = .ok (.imul, 1) := dk_104 (dk_at dksX10_stand_1 1 rfl rfl)
theorem dX10_stand_26 : decode cX10_stand 26 = .ok (.iload_n 1, 1) := dk_27 (dk_at dksX10_stand_1 2 rfl rfl)
theorem dX10_stand_27 : decode cX10_stand 27 = .ok (.iadd, 1) := dk_96 (dk_at dksX10_stand_1 3 rfl rfl)
theorem dX10_stand_28 : decode cX10_stand 28 = .ok (.iaload, 1) := dk_46 (dk_at dksX10_stand_1 4 rfl rfl)
theorem dX10_stand_29 : decode cX10_stand 29 = .ok (.ifCond .eq 5, 3) := dk_153 0 5 (dk_at dksX10_stand_1 5 rfl rfl)
theorem dX10_stand_32 : decode cX10_stand 32 = .ok (.iconst 0, 1) := dk_3 (dk_at dksX10_stand_1 8 rfl rfl)
theorem dX10_stand_33 : decode cX10_stand 33 = .ok (.ireturn, 1) := dk_172 (dk_at dksX10_stand_1 9 rfl rfl)
theorem dX10_stand_34 : decode cX10_stand 34 = .ok (.aload_n 0, 1) := dk_42 (dk_at dksX10_stand_1 10 rfl rfl)
theorem dX10_stand_35 : decode cX10_stand 35 = .ok (.getfield 13, 3) := dk_180 0 13 (dk_at dksX10_stand_1 11 rfl rfl)
theorem dX10_stand_38 : decode cX10_stand 38 = .ok (.sipush 340, 3) := dk_17 1 84 (dk_at dksX10_stand_1 14 rfl rfl)
theorem dX10_stand_41 : decode cX10_stand 41 = .ok (.bipush 10, 2) := dk_16 10 (dk_at dksX10_stand_1 17 rfl rfl)
theorem dX10_stand_43 : decode cX10_stand 43 = .ok (.iload_n 2, 1) := dk_28 (dk_at dksX10_stand_1 19 rfl rfl)
theorem dX10_stand_44 : decode cX10_stand 44 = .ok (.imul, 1) := dk_104 (dk_at dksX10_stand_1 20 rfl rfl)
theorem dX10_stand_45 : decode cX10_stand 45 = .ok (.iload_n 1, 1) := dk_27 (dk_at dksX10_stand_1 21 rfl rfl)
theorem dX10_stand_46 : decode cX10_stand 46 = .ok (.iadd, 1) := dk_96 (dk_at dksX10_stand_1 22 rfl rfl)
theorem dX10_stand_47 : decode cX10_stand 47 = .ok (.iastore, 1) := dk_79 (dk_at dksX10_stand_1 23 rfl rfl)
theorem dX10_stand_48 : decode cX10_stand 48 = .ok (.iconst 1, 1) := dk_4 (dk_at dksX10_stand_2 0 rfl rfl)
theorem dX10_stand_49 : decode cX10_stand 49 = .ok (.ireturn, 1) := dk_172 (dk_at dksX10_stand_2 1 rfl rfl)
theorem dn_X10_stand : yX10_stand.cls ≠ "java/lang/invoke/MethodHandle" ∧ yX10_stand.cls ≠ "java/lang/invoke/VarHandle" ∧ (parseMethodDescriptor yX10_stand.desc).map (fun d => d.parameters.length) = some 2 := by decide +kernel
noncomputable def M_X10_stand (p1 : Int32) (p2 : Int32) : TM Bool := TM.bind (sI 0 0) (fun _ => TM.bind (M_X10_takeNow) (fun v1 => TM.bind (M_X10_isWalked p1 p2) (fun v2 => cond v2 (TM.bind (tA 44 100 ((10 * p2) + p1)) (fun v3 => if v3 = 0 then TM.bind (sA 14 704 340 ((10 * p2) + p1)) (fun _ => TM.pure true) else TM.pure false)) (TM.pure false))))
set_option maxHeartbeats 4000000 in
theorem ct_X10_stand (G : gG) (am : Nat) (p1 : Int32) (p2 : Int32) : gCtM G am yX10_stand cX10_stand 3 (some .boolean) 4 98 [.ref am, .int p1, .int p2] (M_X10_stand p1 p2) (fun x : Bool => some (.int (b2i x))) := by
  refine gCtM.of (by decide) (Nat.le_of_ble_eq_true rfl) (fun K hn ms ms' r hG X hK hd ho => ?_)
  subst hG
  have X : gX K cX10_stand 3 "BitingDoorsModel" "stand" (some .boolean) 4 98 := X
  show V K 3 (mkM am hn ms) 0 [(0, .ref am), (1, .int p1), (2, .int p2)] []
  unfold M_X10_stand at hd
  refine v_aload_n X dX10_stand_0 0 0 rfl rfl ?_
  refine v_iconst (v := 0) X dX10_stand_1 (by decide) ?_
  refine t_putI X hd rfl fp_X10_108 dX10_stand_2 (fun ms hd => ?_)
  refine v_aload_n X dX10_stand_5 0 0 rfl rfl ?_
  refine t_callV X hK hd (ct_X10_takeNow _ am) (lw_V q2144 q2146 qs77 q120 q2147) ⟨rfl, dn_X10_takeNow⟩ rfl ⟨by decide, by decide⟩ rfl (Nat.le_of_ble_eq_true rfl) dX10_stand_6 (fun v1 ms hd => ?_)
  show V K 3 (mkM am hn ms) 9 [(0, .ref am), (1, .int p1), (2, .int p2)] []
  refine v_aload_n X dX10_stand_9 0 0 rfl rfl ?_
  refine v_iload_n X dX10_stand_10 1 1 rfl rfl ?_
  refine v_iload_n X dX10_stand_11 2 2 rfl rfl ?_
  refine t_callV X hK hd (ct_X10_isWalked _ am p1 p2) (lw_V q2152 q2154 qs79 q120 q2155) ⟨rfl, dn_X10_isWalked⟩ rfl ⟨by decide, by decide⟩ rfl (Nat.le_of_ble_eq_true rfl) dX10_stand_12 (fun v2 ms hd => ?_)
  show V K 3 (mkM am hn ms) 15 [(0, .ref am), (1, .int p1), (2, .int p2)] [.int (b2i v2)]
  refine v_ifZ_eq (tgt := 32) X dX10_stand_15 (by decide) (fun q => ?_) (fun q => ?_)
  · have hd := Tcnd_f q hd
    refine v_iconst (v := 0) X dX10_stand_32 (by decide) ?_
    exact t_zret X hK hd rfl ho dX10_stand_33
  · have hd := Tcnd_t q hd
    refine v_aload_n X dX10_stand_18 0 0 rfl rfl ?_
    refine t_getA (j := 23) X rfl fl_X10_81 dX10_stand_19 ?_
    refine v_bipush (v := 10) X dX10_stand_22 (by decide) ?_
    refine v_iload_n X dX10_stand_24 2 2 rfl rfl ?_
    refine v_imul X dX10_stand_25 ?_
    refine v_iload_n X dX10_stand_26 1 1 rfl rfl ?_
    refine v_iadd X dX10_stand_27 ?_
    refine t_iald (j := 23) X hd rfl dX10_stand_28 (fun v3 hd => ?_)
    refine v_if_eq (tgt := 34) X dX10_stand_29 (by decide) (fun q => ?_) (fun q => ?_)
    · have hd := Tite_t q hd
      refine v_aload_n X dX10_stand_34 0 0 rfl rfl ?_
      refine t_getA (j := 1) X rfl fl_X10_13 dX10_stand_35 ?_
      refine v_sipush (v := 340) X dX10_stand_38 (by decide) ?_
      refine v_bipush (v := 10) X dX10_stand_41 (by decide) ?_
      refine v_iload_n X dX10_stand_43 2 2 rfl rfl ?_
      refine v_imul X dX10_stand_44 ?_
      refine v_iload_n X dX10_stand_45 1 1 rfl rfl ?_
      refine v_iadd X dX10_stand_46 ?_
      refine t_iast (j := 1) X hd rfl dX10_stand_47 (fun ms hd => ?_)
      refine v_iconst (v := 1) X dX10_stand_48 (by decide) ?_
      exact t_zret X hK hd rfl ho dX10_stand_49
    · have hd := Tite_f q hd
      refine v_iconst (v := 0) X dX10_stand_32 (by decide) ?_
      exact t_zret X hK hd rfl ho dX10_stand_33
