set_option maxRecDepth 100000
def dkwX8_act_6 : List UInt8 := [187, 0, 90, 89, 42, 4, 16, 30, 182, 0, 62, 183, 0, 92, 176]
abbrev dktX8_act_6 : List UInt8 := dkwX8_act_6 ++ []
def dkwX8_act_5 : List UInt8 := [187, 0, 87, 89, 42, 42, 180, 0, 3, 180, 0, 71, 180, 0, 75, 182, 0, 81, 183, 0, 89, 176]
abbrev dktX8_act_5 : List UInt8 := dkwX8_act_5 ++ dktX8_act_6
def dkwX8_act_4 : List UInt8 := [187, 0, 69, 89, 42, 42, 180, 0, 3, 180, 0, 71, 180, 0, 75, 182, 0, 81, 183, 0, 85, 176]
abbrev dktX8_act_4 : List UInt8 := dkwX8_act_4 ++ dktX8_act_5
def dkwX8_act_3 : List UInt8 := [182, 0, 35, 42, 182, 0, 42, 187, 0, 60, 89, 28, 42, 4, 16, 30, 182, 0, 62, 183, 0, 66, 176]
abbrev dktX8_act_3 : List UInt8 := dkwX8_act_3 ++ dktX8_act_4
def dkwX8_act_2 : List UInt8 := [42, 42, 180, 0, 3, 180, 0, 57, 182, 0, 31, 61, 42, 28, 2, 159, 0, 7, 4, 167, 0, 4, 3, 4]
abbrev dktX8_act_2 : List UInt8 := dkwX8_act_2 ++ dktX8_act_3
def dkwX8_act_1 : List UInt8 := [170, 0, 0, 0, 0, 0, 118, 0, 0, 0, 0, 0, 0, 0, 2, 0, 0, 0, 27, 0, 0, 0, 74, 0, 0, 0, 96]
abbrev dktX8_act_1 : List UInt8 := dkwX8_act_1 ++ dktX8_act_2
def dkwX8_act_0 : List UInt8 := [27]
abbrev dktX8_act_0 : List UInt8 := dkwX8_act_0 ++ dktX8_act_1
theorem dksX8_act_0 : cX8_act.data.toList.drop 0 = dktX8_act_0 := by decide +kernel
theorem dksX8_act_1 : cX8_act.data.toList.drop 1 = dktX8_act_1 := dk_seg dksX8_act_0 1 rfl rfl
theorem dksX8_act_2 : cX8_act.data.toList.drop 28 = dktX8_act_2 := dk_seg dksX8_act_1 27 rfl rfl
theorem dksX8_act_3 : cX8_act.data.toList.drop 52 = dktX8_act_3 := dk_seg dksX8_act_2 24 rfl rfl
theorem dksX8_act_4 : cX8_act.data.toList.drop 75 = dktX8_act_4 := dk_seg dksX8_act_3 23 rfl rfl
theorem dksX8_act_5 : cX8_act.data.toList.drop 97 = dktX8_act_5 := dk_seg dksX8_act_4 22 rfl rfl
theorem dksX8_act_6 : cX8_act.data.toList.drop 119 = dktX8_act_6 := dk_seg dksX8_act_5 22 rfl rfl
theorem dX8_act_0 : decode cX8_act 0 = .ok (.iload_n 1, 1) := dk_27 (dk_at dksX8_act_0 0 rfl rfl)
theorem dX8_act_1 : decode cX8_act 1 = .ok (.tableswitch 118 0 2 #[27, 74, 96], 27) := by decide +kernel
theorem dX8_act_28 : decode cX8_act 28 = .ok (.aload_n 0, 1) := dk_42 (dk_at dksX8_act_2 0 rfl rfl)
theorem dX8_act_29 : decode cX8_act 29 = .ok (.aload_n 0, 1) := dk_42 (dk_at dksX8_act_2 1 rfl rfl)
theorem dX8_act_30 : decode cX8_act 30 = .ok (.getfield 3, 3) := dk_180 0 3 (dk_at dksX8_act_2 2 rfl rfl)
theorem dX8_act_33 : decode cX8_act 33 = .ok (.getfield 57, 3) := dk_180 0 57 (dk_at dksX8_act_2 5 rfl rfl)
theorem dX8_act_36 : decode cX8_act 36 = .ok (.invokevirtual 31, 3) := dk_182 0 31 (dk_at dksX8_act_2 8 rfl rfl)
theorem dX8_act_39 : decode cX8_act 39 = .ok (.istore_n 2, 1) := dk_61 (dk_at dksX8_act_2 11 rfl rfl)
theorem dX8_act_40 : decode cX8_act 40 = .ok (.aload_n 0, 1) := dk_42 (dk_at dksX8_act_2 12 rfl rfl)
theorem dX8_act_41 : decode cX8_act 41 = .ok (.iload_n 2, 1) := dk_28 (dk_at dksX8_act_2 13 rfl rfl)
theorem dX8_act_42 : decode cX8_act 42 = .ok (.iconst (-1), 1) := dk_2 (dk_at dksX8_act_2 14 rfl rfl)
theorem dX8_act_43 : decode cX8_act 43 = .ok (.if_icmp .eq 7, 3) := dk_159 0 7 (dk_at dksX8_act_2 15 rfl rfl)
theorem dX8_act_46 : decode cX8_act 46 = .ok (.iconst 1, 1) := dk_4 (dk_at dksX8_act_2 18 rfl rfl)
theorem dX8_act_47 : decode cX8_act 47 = .ok (.goto 4, 3) := dk_167 0 4 (dk_at dksX8_act_2 19 rfl rfl)
theorem dX8_act_50 : decode cX8_act 50 = .ok (.iconst 0, 1) := dk_3 (dk_at dksX8_act_2 22 rfl rfl)
theorem dX8_act_51 : decode cX8_act 51 = .ok (.iconst 1, 1) := dk_4 (dk_at dksX8_act_2 23 rfl rfl)
theorem dX8_act_52 : decode cX8_act 52 = .ok (.invokevirtual 35, 3) := dk_182 0 35 (dk_at dksX8_act_3 0 rfl rfl)
theorem dX8_act_55 : decode cX8_act 55 = .ok (.aload_n 0, 1) := dk_42 (dk_at dksX8_act_3 3 rfl rfl)
theorem dX8_act_56 : decode cX8_act 56 = .ok (.invokevirtual 42, 3) := dk_182 0 42 (dk_at dksX8_act_3 4 rfl rfl)
theorem dX8_act_59 : decode cX8_act 59 = .ok (.new 60, 3) := dk_187 0 60 (dk_at dksX8_act_3 7 rfl rfl)
theorem dX8_act_62 : decode cX8_act 62 = .ok (.dup, 1) := dk_89 (dk_at dksX8_act_3 10 rfl rfl)
theorem dX8_act_63 : decode cX8_act 63 = .ok (.iload_n 2, 1) := dk_28 (dk_at dksX8_act_3 11 rfl rfl)
theorem dX8_act_64 : decode cX8_act 64 = .ok (.aload_n 0, 1) := dk_42 (dk_at dksX8_act_3 12 rfl rfl)
theorem dX8_act_65 : decode cX8_act 65 = .ok (.iconst 1, 1) := dk_4 (dk_at dksX8_act_3 13 rfl rfl)
theorem dX8_act_66 : decode cX8_act 66 = .ok (.bipush 30, 2) := dk_16 30 (dk_at dksX8_act_3 14 rfl rfl)
theorem dX8_act_68 : decode cX8_act 68 = .ok (.invokevirtual 62, 3) := dk_182 0 62 (dk_at dksX8_act_3 16 rfl rfl)
theorem dX8_act_71 : decode cX8_act 71 = .ok (.invokespecial 66, 3) := dk_183 0 66 (dk_at dksX8_act_3 19 rfl rfl)
theorem dX8_act_74 : decode cX8_act 74 = .ok (.areturn, 1) := dk_176 (dk_at dksX8_act_3 22 rfl rfl)
theorem dX8_act_75 : decode cX8_act 75 = .ok (.new 69, 3) := dk_187 0 69 (dk_at dksX8_act_4 0 rfl rfl)
theorem dX8_act_78 : decode cX8_act 78 = .ok (.dup, 1) := dk_89 (dk_at dksX8_act_4 3 rfl rfl)
theorem dX8_act_79 : decode cX8_act 79 = .ok (.aload_n 0, 1) := dk_42 (dk_at dksX8_act_4 4 rfl rfl)
theorem dX8_act_80 : decode cX8_act 80 = .ok (.aload_n 0, 1) := dk_42 (dk_at dksX8_act_4 5 rfl rfl)
theorem dX8_act_81 : decode cX8_act 81 = .ok (.getfield 3, 3) := dk_180 0 3 (dk_at dksX8_act_4 6 rfl rfl)
theorem dX8_act_84 : decode cX8_act 84 = .ok (.getfield 71, 3) := dk_180 0 71 (dk_at dksX8_act_4 9 rfl rfl)
theorem dX8_act_87 : decode cX8_act 87 = .ok (.getfield 75, 3) := dk_180 0 75 (dk_at dksX8_act_4 12 rfl rfl)
theorem dX8_act_90 : decode cX8_act 90 = .ok (.invokevirtual 81, 3) := dk_182 0 81 (dk_at dksX8_act_4 15 rfl rfl)
theorem dX8_act_93 : decode cX8_act 93 = .ok (.invokespecial 85, 3) := dk_183 0 85 (dk_at dksX8_act_4 18 rfl rfl)
theorem dX8_act_96 : decode cX8_act 96 = .ok (.areturn, 1) := dk_176 (dk_at dksX8_act_4 21 rfl rfl)
theorem dX8_act_97 : decode cX8_act 97 = .ok (.new 87, 3) := dk_187 0 87 (dk_at dksX8_act_5 0 rfl rfl)
theorem dX8_act_100 : decode cX8_act 100 = .ok (.dup, 1) := dk_89 (dk_at dksX8_act_5 3 rfl rfl)
theorem dX8_act_101 : decode cX8_act 101 = .ok (.aload_n 0, 1) := dk_42 (dk_at dksX8_act_5 4 rfl rfl)
theorem dX8_act_102 : decode cX8_act 102 = .ok (.aload_n 0, 1) := dk_42 (dk_at dksX8_act_5 5 rfl rfl)
theorem dX8_act_103 : decode cX8_act 103 = .ok (.getfield 3, 3) := dk_180 0 3 (dk_at dksX8_act_5 6 rfl rfl)
theorem dX8_act_106 : decode cX8_act 106 = .ok (.getfield 71, 3) := dk_180 0 71 (dk_at dksX8_act_5 9 rfl rfl)
theorem dX8_act_109 : decode cX8_act 109 = .ok (.getfield 75, 3) := dk_180 0 75 (dk_at dksX8_act_5 12 rfl rfl)
theorem dX8_act_112 : decode cX8_act 112 = .ok (.invokevirtual 81, 3) := dk_182 0 81 (dk_at dksX8_act_5 15 rfl rfl)
theorem dX8_act_115 : decode cX8_act 115 = .ok (.invokespecial 89, 3) := dk_183 0 89 (dk_at dksX8_act_5 18 rfl rfl)
theorem dX8_act_118 : decode cX8_act 118 = .ok (.areturn, 1) := dk_176 (dk_at dksX8_act_5 21 rfl rfl)
theorem dX8_act_119 : decode cX8_act 119 = .ok (.new 90, 3) := dk_187 0 90 (dk_at dksX8_act_6 0 rfl rfl)
theorem dX8_act_122 : decode cX8_act 122 = .ok (.dup, 1) := dk_89 (dk_at dksX8_act_6 3 rfl rfl)
theorem dX8_act_123 : decode cX8_act 123 = .ok (.aload_n 0, 1) := dk_42 (dk_at dksX8_act_6 4 rfl rfl)
theorem dX8_act_124 : decode cX8_act 124 = .ok (.iconst 1, 1) := dk_4 (dk_at dksX8_act_6 5 rfl rfl)
theorem dX8_act_125 : decode cX8_act 125 = .ok (.bipush 30, 2) := dk_16 30 (dk_at dksX8_act_6 6 rfl rfl)
theorem dX8_act_127 : decode cX8_act 127 = .ok (.invokevirtual 62, 3) := dk_182 0 62 (dk_at dksX8_act_6 8 rfl rfl)
theorem dX8_act_130 : decode cX8_act 130 = .ok (.invokespecial 92, 3) := dk_183 0 92 (dk_at dksX8_act_6 11 rfl rfl)
theorem dX8_act_133 : decode cX8_act 133 = .ok (.areturn, 1) := dk_176 (dk_at dksX8_act_6 14 rfl rfl)
theorem fl_X8_3 : gFl "BitingDoors$DayReader" 3 [6] 8 := by
  intro args s hts hN ci hc
  simp only [List.mem_cons, List.not_mem_nil, or_false] at hc
  subst hc
  exact ⟨RX8, TX8, 9, "BitingDoors$DayReader", gCl_X8, in_X8, by decide, Or.inl (hts _ q438), fun _ h => h⟩
theorem fl_X8_57 : gFl "BitingDoors$DayReader" 57 [0] 7 := by
  intro args s hts hN ci hc
  simp only [List.mem_cons, List.not_mem_nil, or_false] at hc
  subst hc
  exact ⟨RX1, TX1, 46, "BitingDoors", gCl_X1, in_X1, by decide, Or.inr ⟨"BitingDoors", va_Nw.use rfl (hN.1 ("BitingDoors$DayReader", 57, "BitingDoors", "sides", "[Ljava/lang/String;", "BitingDoors") (List.mem_of_getElem? (i := 60) rfl))⟩, fun _ h => h⟩
theorem fl_X8_71 : gFl "BitingDoors$DayReader" 71 [0] 9 := by
  intro args s hts hN ci hc
  simp only [List.mem_cons, List.not_mem_nil, or_false] at hc
  subst hc
  exact ⟨RX1, TX1, 46, "BitingDoors", gCl_X1, in_X1, by decide, Or.inr ⟨"BitingDoors", va_Nw.use rfl (hN.1 ("BitingDoors$DayReader", 71, "BitingDoors", "now", "LBitingDoors$Walker;", "BitingDoors") (List.mem_of_getElem? (i := 62) rfl))⟩, fun _ h => h⟩
theorem fl_X8_75 : gFl "BitingDoors$DayReader" 75 [2] 0 := by
  intro args s hts hN ci hc
  simp only [List.mem_cons, List.not_mem_nil, or_false] at hc
  subst hc
  exact ⟨RX3, TX3, 6, "BitingDoors$Walker", gCl_X3, in_X3, by decide, Or.inr ⟨"BitingDoors", va_Nw.use rfl (hN.1 ("BitingDoors$DayReader", 75, "BitingDoors$Walker", "house", "LBitingDoors$House;", "BitingDoors") (List.mem_of_getElem? (i := 57) rfl))⟩, fun _ h => h⟩
theorem hu_X8_31 : ∀ ci ∈ [6], ∃ rr : vw_C, gCl[ci]? = some rr ∧ GoodIn lw_all (va_wsU "BitingDoors$DayReader" 31 rr.1 "BitingDoors$Reader" ⟨"BitingDoors$DayReader", "find", "([Ljava/lang/String;)I"⟩ yX6_find (ws_ yX6_find cX6_find 3 (some .int))) := by
  intro ci hc
  simp only [List.mem_cons, List.not_mem_nil, or_false] at hc
  subst hc
  refine ⟨_, gCl_X8, lw_app (fun w hw => ?_) (lw_meth q703)⟩
  simp only [List.mem_cons, List.not_mem_nil, or_false] at hw
  rcases hw with e | e | e | e | e
  · rw [e]; exact q1028
  · rw [e]; exact q1029
  · rw [e]; exact q1030
  · rw [e]; exact q702
  · rw [e]; exact q116
theorem hu_X8_35 : ∀ ci ∈ [6], ∃ rr : vw_C, gCl[ci]? = some rr ∧ GoodIn lw_all (va_wsU "BitingDoors$DayReader" 35 rr.1 "BitingDoors$Reader" ⟨"BitingDoors$DayReader", "must", "(ZI)V"⟩ yX6_must (ws_ yX6_must cX6_must 3 none)) := by
  intro ci hc
  simp only [List.mem_cons, List.not_mem_nil, or_false] at hc
  subst hc
  refine ⟨_, gCl_X8, lw_app (fun w hw => ?_) (lw_meth q764)⟩
  simp only [List.mem_cons, List.not_mem_nil, or_false] at hw
  rcases hw with e | e | e | e | e
  · rw [e]; exact q1031
  · rw [e]; exact q1032
  · rw [e]; exact q1033
  · rw [e]; exact q763
  · rw [e]; exact q116
theorem hu_X8_42 : ∀ ci ∈ [6], ∃ rr : vw_C, gCl[ci]? = some rr ∧ GoodIn lw_all (va_wsU "BitingDoors$DayReader" 42 rr.1 "BitingDoors$Reader" ⟨"BitingDoors$DayReader", "next", "()V"⟩ yX6_next (ws_ yX6_next cX6_next 2 none)) := by
  intro ci hc
  simp only [List.mem_cons, List.not_mem_nil, or_false] at hc
  subst hc
  refine ⟨_, gCl_X8, lw_app (fun w hw => ?_) (lw_meth q678)⟩
  simp only [List.mem_cons, List.not_mem_nil, or_false] at hw
  rcases hw with e | e | e | e | e
  · rw [e]; exact q1034
  · rw [e]; exact q1035
  · rw [e]; exact q1036
  · rw [e]; exact q673
  · rw [e]; exact q116
theorem hu_X8_62 : ∀ ci ∈ [6], ∃ rr : vw_C, gCl[ci]? = some rr ∧ GoodIn lw_all (va_wsU "BitingDoors$DayReader" 62 rr.1 "BitingDoors$Reader" ⟨"BitingDoors$DayReader", "number", "(II)I"⟩ yX6_number (ws_ yX6_number cX6_number 4 (some .int))) := by
  intro ci hc
  simp only [List.mem_cons, List.not_mem_nil, or_false] at hc
  subst hc
  refine ⟨_, gCl_X8, lw_app (fun w hw => ?_) (lw_meth q813)⟩
  simp only [List.mem_cons, List.not_mem_nil, or_false] at hw
  rcases hw with e | e | e | e | e
  · rw [e]; exact q1043
  · rw [e]; exact q1044
  · rw [e]; exact q1045
  · rw [e]; exact q812
  · rw [e]; exact q116
theorem hu_X8_81 : ∀ ci ∈ [6], ∃ rr : vw_C, gCl[ci]? = some rr ∧ GoodIn lw_all (va_wsU "BitingDoors$DayReader" 81 rr.1 "BitingDoors$Reader" ⟨"BitingDoors$DayReader", "known", "(LBitingDoors$House;)I"⟩ yX6_known (ws_ yX6_known cX6_known 3 (some .int))) := by
  intro ci hc
  simp only [List.mem_cons, List.not_mem_nil, or_false] at hc
  subst hc
  refine ⟨_, gCl_X8, lw_app (fun w hw => ?_) (lw_meth q1067)⟩
  simp only [List.mem_cons, List.not_mem_nil, or_false] at hw
  rcases hw with e | e | e | e | e
  · rw [e]; exact q1062
  · rw [e]; exact q1063
  · rw [e]; exact q1065
  · rw [e]; exact q1066
  · rw [e]; exact q116
theorem nw_X8_60 : gNw "BitingDoors$DayReader" 60 11 2 [.int 0, .int 0] := ⟨RX14, TX14, tyX14, gCl_X14, in_X14, tyX14_ok, q1041, q1042, q134, by decide, rfl⟩
theorem nw_X8_69 : gNw "BitingDoors$DayReader" 69 12 1 [.int 0] := ⟨RX16, TX16, tyX16, gCl_X16, in_X16, tyX16_ok, q1060, q1061, q136, by decide, rfl⟩
theorem nw_X8_87 : gNw "BitingDoors$DayReader" 87 13 1 [.int 0] := ⟨RX17, TX17, tyX17, gCl_X17, in_X17, tyX17_ok, q1085, q1086, q137, by decide, rfl⟩
theorem nw_X8_90 : gNw "BitingDoors$DayReader" 90 14 1 [.int 0] := ⟨RX18, TX18, tyX18, gCl_X18, in_X18, tyX18_ok, q1093, q1094, q138, by decide, rfl⟩
theorem dn_X8_act : yX8_act.cls ≠ "java/lang/invoke/MethodHandle" ∧ yX8_act.cls ≠ "java/lang/invoke/VarHandle" ∧ (parseMethodDescriptor yX8_act.desc).map (fun d => d.parameters.length) = some 1 := by decide +kernel
noncomputable def M_X8_act (t : Nat) (p1 : Int32) : Mo (Nat ⊕ Nat) := Mo.bind (chk [6] t) (fun _ => if p1 = 0 then Mo.bind (gR [6] t 8) (fun v19 => Mo.bind (gR [0] v19 7) (fun v20 => Mo.bind (Mo.bind (chk [6] t) (fun _ => M_X6_find t v20)) (fun v21 => Mo.bind ((if v21 = (-1) then Mo.pure false else Mo.pure true : Mo (Bool))) (fun u22 => Mo.bind (Mo.bind (chk [6] t) (fun _ => M_X6_must t u22 1)) (fun w => Mo.cs w (fun b => Mo.pure (Sum.inl b)) (fun v23 => Mo.bind (Mo.bind (chk [6] t) (fun _ => M_X6_next t)) (fun v24 => Mo.bind (nw 11 2 [.int 0, .int 0]) (fun q25 => Mo.bind (Mo.bind (chk [6] t) (fun _ => M_X6_number t 1 30)) (fun w => Mo.cs w (fun b => Mo.pure (Sum.inl b)) (fun v26 => Mo.bind (M_X14_init q25 v21 v26) (fun v27 => Mo.pure (Sum.inr q25)))))))))))) else if p1 = 1 then Mo.bind (nw 12 1 [.int 0]) (fun q13 => Mo.bind (gR [6] t 8) (fun v14 => Mo.bind (gR [0] v14 9) (fun v15 => Mo.bind (gR [2] v15 0) (fun v16 => Mo.bind (Mo.bind (chk [6] t) (fun _ => M_X6_known t v16)) (fun w => Mo.cs w (fun b => Mo.pure (Sum.inl b)) (fun v17 => Mo.bind (M_X16_init q13 v17) (fun v18 => Mo.pure (Sum.inr q13)))))))) else if p1 = 2 then Mo.bind (nw 13 1 [.int 0]) (fun q7 => Mo.bind (gR [6] t 8) (fun v8 => Mo.bind (gR [0] v8 9) (fun v9 => Mo.bind (gR [2] v9 0) (fun v10 => Mo.bind (Mo.bind (chk [6] t) (fun _ => M_X6_known t v10)) (fun w => Mo.cs w (fun b => Mo.pure (Sum.inl b)) (fun v11 => Mo.bind (M_X17_init q7 v11) (fun v12 => Mo.pure (Sum.inr q7)))))))) else Mo.bind (nw 14 1 [.int 0]) (fun q4 => Mo.bind (Mo.bind (chk [6] t) (fun _ => M_X6_number t 1 30)) (fun w => Mo.cs w (fun b => Mo.pure (Sum.inl b)) (fun v5 => Mo.bind (M_X18_init q4 v5) (fun v6 => Mo.pure (Sum.inr q4))))))
set_option maxHeartbeats 4000000 in
theorem ct_X8_act (G : gG) (t : Nat) (p1 : Int32) : gCx G yX8_act cX8_act 3 (some (.object "BitingDoors$Act")) 8 171 [.ref t, .int p1] (M_X8_act t p1) (fun x : Nat => some (.ref x)) := by
  refine gCx.of (by decide) (Nat.le_of_ble_eq_true rfl) (fun K r hG X hex hd ho => ?_)
  subst hG
  have X : gX K cX8_act 3 "BitingDoors$DayReader" "act" (some (.object "BitingDoors$Act")) 8 171 := X
  have hle : gLe (kh1 K) (kh1 K) := gLe.rf
  show V K 3 (kh0 K) 0 [(0, .ref t), (1, .int p1)] []
  generalize kh0 K = h at hd ⊢
  unfold M_X8_act at hd
  obtain ⟨-, hd⟩ := chk_some hd
  refine v_iload_n X dX8_act_0 1 1 rfl rfl ?_
  by_cases q0 : p1 = 0
  · have hd := ite_t q0 hd
    refine v_tableIn (k := 0) (off := 27) (tgt := 28) X dX8_act_1 q0 (by decide) (by decide) rfl (by decide) ?_
    refine v_aload_n X dX8_act_28 0 0 rfl rfl ?_
    refine v_aload_n X dX8_act_29 0 0 rfl rfl ?_
    refine v_getR X hd fl_X8_3 dX8_act_30 (fun v19 hd => ?_)
    refine v_getR X hd fl_X8_57 dX8_act_33 (fun v20 hd => ?_)
    refine v_callU X hd hle (ct_X6_find _ t v20) hu_X8_31 rfl dn_X6_find rfl ⟨by decide, by decide⟩ rfl (Nat.le_of_ble_eq_true rfl) dX8_act_36 (fun v21 h hd => ?_)
    show V K 3 h 39 [(0, .ref t), (1, .int p1)] [.int v21]
    refine v_istore_n (lv2 := [(2, .int v21), (0, .ref t), (1, .int p1)]) X dX8_act_39 2 rfl (by decide) rfl ?_
    refine v_aload_n X dX8_act_40 1 0 rfl rfl ?_
    refine v_iload_n X dX8_act_41 0 2 rfl rfl ?_
    refine v_iconst (v := (-1)) X dX8_act_42 (by decide) ?_
    obtain ⟨u22, h1, hd, hd2⟩ := Mo.bind_some hd
    have KJ : V K 3 h1 51 [(0, .ref t), (2, .int v21)] [.int (b2i u22), .ref t] := by
      clear hd
      have hd := hd2
      refine v_iconst (v := 1) X dX8_act_51 (by decide) ?_
      refine v_callUX X hd hle (ct_X6_must _ t u22 1) hu_X8_35 rfl dn_X6_must rfl q116 q764 ⟨by decide, by decide⟩ rfl (Nat.le_of_ble_eq_true rfl) dX8_act_52 (fun v23 h hd => ?_) (fun b h hd => ?_)
      · show V K 3 h 55 [(0, .ref t), (2, .int v21)] []
        have hd := cs_r hd
        refine v_aload_n X dX8_act_55 0 0 rfl rfl ?_
        refine v_callU X hd hle (ct_X6_next _ t) hu_X8_42 rfl dn_X6_next rfl ⟨by decide, by decide⟩ rfl (Nat.le_of_ble_eq_true rfl) dX8_act_56 (fun v24 h hd => ?_)
        show V K 3 h 59 [(0, .ref t), (2, .int v21)] []
        refine v_new X hd hle nw_X8_60 dX8_act_59 (fun q25 h hd => ?_)
        refine v_dup X dX8_act_62 rfl ?_
        refine v_iload_n X dX8_act_63 1 2 rfl rfl ?_
        refine v_aload_n X dX8_act_64 0 0 rfl rfl ?_
        refine v_iconst (v := 1) X dX8_act_65 (by decide) ?_
        refine v_bipush (v := 30) X dX8_act_66 (by decide) ?_
        refine v_callUX X hd hle (ct_X6_number _ t 1 30) hu_X8_62 rfl dn_X6_number rfl q116 q813 ⟨by decide, by decide⟩ rfl (Nat.le_of_ble_eq_true rfl) dX8_act_68 (fun v26 h hd => ?_) (fun b h hd => ?_)
        · show V K 3 h 71 [(0, .ref t), (2, .int v21)] [.int v26, .int v21, .ref q25, .ref q25]
          have hd := cs_r hd
          refine v_callI X hd hle (ct_X14_init _ q25 v21 v26) q1048 q134 q1046 q1047 rfl dn_X14_init rfl ⟨by decide, by decide⟩ rfl (Nat.le_of_ble_eq_true rfl) dX8_act_71 (fun v27 h hd => ?_)
          show V K 3 h 74 [(0, .ref t), (2, .int v21)] [.ref q25]
          obtain ⟨rfl, hx⟩ := px_inr hd
          exact v_aret X rfl (Or.inl ⟨_, rfl⟩) hx ho dX8_act_74
        · have hd := cs_l hd
          obtain ⟨rfl, hh⟩ := px_inl hd
          exact vx_leave X hex ho hh
      · have hd := cs_l hd
        obtain ⟨rfl, hh⟩ := px_inl hd
        exact vx_leave X hex ho hh
    have hle := (Mo.le hd2).tr hle
    clear hd2
    refine v_icmp_eq (tgt := 50) X dX8_act_43 (by decide) (fun q => ?_) (fun q => ?_)
    · have hd := ite_t q hd
      refine v_iconst (v := 0) X dX8_act_50 (by decide) ?_
      exact v_loc [1, 0] rfl (v_at (P := fun (u22 : Bool) h => V K 3 h 51 [(0, .ref t), (2, .int v21)] [.int (b2i u22), .ref t]) hd KJ)
    · have hd := ite_f q hd
      refine v_iconst (v := 1) X dX8_act_46 (by decide) ?_
      refine v_goto (tgt := 51) X dX8_act_47 (by decide) ?_
      exact v_loc [1, 0] rfl (v_at (P := fun (u22 : Bool) h => V K 3 h 51 [(0, .ref t), (2, .int v21)] [.int (b2i u22), .ref t]) hd KJ)
  · have hd := ite_f q0 hd
    by_cases q1 : p1 = 1
    · have hd := ite_t q1 hd
      refine v_tableIn (k := 1) (off := 74) (tgt := 75) X dX8_act_1 q1 (by decide) (by decide) rfl (by decide) ?_
      refine v_new X hd hle nw_X8_69 dX8_act_75 (fun q13 h hd => ?_)
      refine v_dup X dX8_act_78 rfl ?_
      refine v_aload_n X dX8_act_79 0 0 rfl rfl ?_
      refine v_aload_n X dX8_act_80 0 0 rfl rfl ?_
      refine v_getR X hd fl_X8_3 dX8_act_81 (fun v14 hd => ?_)
      refine v_getR X hd fl_X8_71 dX8_act_84 (fun v15 hd => ?_)
      refine v_getR X hd fl_X8_75 dX8_act_87 (fun v16 hd => ?_)
      refine v_callUX X hd hle (ct_X6_known _ t v16) hu_X8_81 rfl dn_X6_known rfl q116 q1067 ⟨by decide, by decide⟩ rfl (Nat.le_of_ble_eq_true rfl) dX8_act_90 (fun v17 h hd => ?_) (fun b h hd => ?_)
      · show V K 3 h 93 [(0, .ref t), (1, .int p1)] [.int v17, .ref q13, .ref q13]
        have hd := cs_r hd
        refine v_callI X hd hle (ct_X16_init _ q13 v17) q1072 q136 q1070 q1071 rfl dn_X16_init rfl ⟨by decide, by decide⟩ rfl (Nat.le_of_ble_eq_true rfl) dX8_act_93 (fun v18 h hd => ?_)
        show V K 3 h 96 [(0, .ref t), (1, .int p1)] [.ref q13]
        obtain ⟨rfl, hx⟩ := px_inr hd
        exact v_aret X rfl (Or.inl ⟨_, rfl⟩) hx ho dX8_act_96
      · have hd := cs_l hd
        obtain ⟨rfl, hh⟩ := px_inl hd
        exact vx_leave X hex ho hh
    · have hd := ite_f q1 hd
      by_cases q2 : p1 = 2
      · have hd := ite_t q2 hd
        refine v_tableIn (k := 2) (off := 96) (tgt := 97) X dX8_act_1 q2 (by decide) (by decide) rfl (by decide) ?_
        refine v_new X hd hle nw_X8_87 dX8_act_97 (fun q7 h hd => ?_)
        refine v_dup X dX8_act_100 rfl ?_
        refine v_aload_n X dX8_act_101 0 0 rfl rfl ?_
        refine v_aload_n X dX8_act_102 0 0 rfl rfl ?_
        refine v_getR X hd fl_X8_3 dX8_act_103 (fun v8 hd => ?_)
        refine v_getR X hd fl_X8_71 dX8_act_106 (fun v9 hd => ?_)
        refine v_getR X hd fl_X8_75 dX8_act_109 (fun v10 hd => ?_)
        refine v_callUX X hd hle (ct_X6_known _ t v10) hu_X8_81 rfl dn_X6_known rfl q116 q1067 ⟨by decide, by decide⟩ rfl (Nat.le_of_ble_eq_true rfl) dX8_act_112 (fun v11 h hd => ?_) (fun b h hd => ?_)
        · show V K 3 h 115 [(0, .ref t), (1, .int p1)] [.int v11, .ref q7, .ref q7]
          have hd := cs_r hd
          refine v_callI X hd hle (ct_X17_init _ q7 v11) q1089 q137 q1087 q1088 rfl dn_X17_init rfl ⟨by decide, by decide⟩ rfl (Nat.le_of_ble_eq_true rfl) dX8_act_115 (fun v12 h hd => ?_)
          show V K 3 h 118 [(0, .ref t), (1, .int p1)] [.ref q7]
          obtain ⟨rfl, hx⟩ := px_inr hd
          exact v_aret X rfl (Or.inl ⟨_, rfl⟩) hx ho dX8_act_118
        · have hd := cs_l hd
          obtain ⟨rfl, hh⟩ := px_inl hd
          exact vx_leave X hex ho hh
      · have hd := ite_f q2 hd
        have eq0 := lv_neT q0 (k := 0) (a := 0) (by decide)
        have eq1 := lv_neT q1 (k := 1) (a := 1) (by decide)
        have eq2 := lv_neT q2 (k := 2) (a := 2) (by decide)
        refine v_tableOut (tgt := 119) X dX8_act_1 (by omega) (by decide) ?_
        refine v_new X hd hle nw_X8_90 dX8_act_119 (fun q4 h hd => ?_)
        refine v_dup X dX8_act_122 rfl ?_
        refine v_aload_n X dX8_act_123 0 0 rfl rfl ?_
        refine v_iconst (v := 1) X dX8_act_124 (by decide) ?_
        refine v_bipush (v := 30) X dX8_act_125 (by decide) ?_
        refine v_callUX X hd hle (ct_X6_number _ t 1 30) hu_X8_62 rfl dn_X6_number rfl q116 q813 ⟨by decide, by decide⟩ rfl (Nat.le_of_ble_eq_true rfl) dX8_act_127 (fun v5 h hd => ?_) (fun b h hd => ?_)
        · show V K 3 h 130 [(0, .ref t), (1, .int p1)] [.int v5, .ref q4, .ref q4]
          have hd := cs_r hd
          refine v_callI X hd hle (ct_X18_init _ q4 v5) q1097 q138 q1095 q1096 rfl dn_X18_init rfl ⟨by decide, by decide⟩ rfl (Nat.le_of_ble_eq_true rfl) dX8_act_130 (fun v6 h hd => ?_)
          show V K 3 h 133 [(0, .ref t), (1, .int p1)] [.ref q4]
          obtain ⟨rfl, hx⟩ := px_inr hd
          exact v_aret X rfl (Or.inl ⟨_, rfl⟩) hx ho dX8_act_133
        · have hd := cs_l hd
          obtain ⟨rfl, hh⟩ := px_inl hd
          exact vx_leave X hex ho hh
def dkwX8_read_4 : List UInt8 := [16, 59, 182, 0, 53, 167, 255, 169, 43, 176]
abbrev dktX8_read_4 : List UInt8 := dkwX8_read_4 ++ []
def dkwX8_read_3 : List UInt8 := [180, 0, 45, 43, 180, 0, 39, 42, 28, 182, 0, 49, 83, 43, 89, 180, 0, 39, 4, 96, 181, 0, 39, 42]
abbrev dktX8_read_3 : List UInt8 := dkwX8_read_3 ++ dktX8_read_4
def dkwX8_read_2 : List UInt8 := [180, 0, 39, 16, 60, 162, 0, 7, 4, 167, 0, 4, 3, 7, 182, 0, 35, 42, 182, 0, 42, 43]
abbrev dktX8_read_2 : List UInt8 := dkwX8_read_2 ++ dktX8_read_3
def dkwX8_read_1 : List UInt8 := [180, 0, 27, 182, 0, 31, 61, 42, 28, 2, 159, 0, 7, 4, 167, 0, 4, 3, 4, 182, 0, 35, 42, 43]
abbrev dktX8_read_1 : List UInt8 := dkwX8_read_1 ++ dktX8_read_2
def dkwX8_read_0 : List UInt8 := [187, 0, 15, 89, 183, 0, 17, 76, 42, 182, 0, 20, 42, 180, 0, 23, 153, 0, 86, 42, 42, 180, 0, 3]
abbrev dktX8_read_0 : List UInt8 := dkwX8_read_0 ++ dktX8_read_1
theorem dksX8_read_0 : cX8_read.data.toList.drop 0 = dktX8_read_0 := by decide +kernel
theorem dksX8_read_1 : cX8_read.data.toList.drop 24 = dktX8_read_1 := dk_seg dksX8_read_0 24 rfl rfl
theorem dksX8_read_2 : cX8_read.data.toList.drop 48 = dktX8_read_2 := dk_seg dksX8_read_1 24 rfl rfl
theorem dksX8_read_3 : cX8_read.data.toList.drop 70 = dktX8_read_3 := dk_seg dksX8_read_2 22 rfl rfl
theorem dksX8_read_4 : cX8_read.data.toList.drop 94 = dktX8_read_4 := dk_seg dksX8_read_3 24 rfl rfl
theorem dX8_read_0 : decode cX8_read 0 = .ok (.new 15, 3) := dk_187 0 15 (dk_at dksX8_read_0 0 rfl rfl)
theorem dX8_read_3 : decode cX8_read 3 = .ok (.dup, 1) := dk_89 (dk_at dksX8_read_0 3 rfl rfl)
theorem dX8_read_4 : decode cX8_read 4 = .ok (.invokespecial 17, 3) := dk_183 0 17 (dk_at dksX8_read_0 4 rfl rfl)
theorem dX8_read_7 : decode cX8_read 7 = .ok (.astore_n 1, 1) := dk_76 (dk_at dksX8_read_0 7 rfl rfl)
theorem dX8_read_8 : decode cX8_read 8 = .ok (.aload_n 0, 1) := dk_42 (dk_at dksX8_read_0 8 rfl rfl)
theorem dX8_read_9 : decode cX8_read 9 = .ok (.invokevirtual 20, 3) := dk_182 0 20 (dk_at dksX8_read_0 9 rfl rfl)
theorem dX8_read_12 : decode cX8_read 12 = .ok (.aload_n 0, 1) := dk_42 (dk_at dksX8_read_0 12 rfl rfl)
theorem dX8_read_13 : decode cX8_read 13 = .ok (.getfield 23, 3) := dk_180 0 23 (dk_at dksX8_read_0 13 rfl rfl)
theorem dX8_read_16 : decode cX8_read 16 = .ok (.ifCond .eq 86, 3) := dk_153 0 86 (dk_at dksX8_read_0 16 rfl rfl)
theorem dX8_read_19 : decode cX8_read 19 = .ok (.aload_n 0, 1) := dk_42 (dk_at dksX8_read_0 19 rfl rfl)
theorem dX8_read_20 : decode cX8_read 20 = .ok (.aload_n 0, 1) := dk_42 (dk_at dksX8_read_0 20 rfl rfl)
theorem dX8_read_21 : decode cX8_read 21 = .ok (.getfield 3, 3) := dk_180 0 3 (dk_at dksX8_read_0 21 rfl rfl)
theorem dX8_read_24 : decode cX8_read 24 = .ok (.getfield 27, 3) := dk_180 0 27 (dk_at dksX8_read_1 0 rfl rfl)
theorem dX8_read_27 : decode cX8_read 27 = .ok (.invokevirtual 31, 3) := dk_182 0 31 (dk_at dksX8_read_1 3 rfl rfl)
theorem dX8_read_30 : decode cX8_read 30 = .ok (.istore_n 2, 1) := dk_61 (dk_at dksX8_read_1 6 rfl rfl)
theorem dX8_read_31 : decode cX8_read 31 = .ok (.aload_n 0, 1) := dk_42 (dk_at dksX8_read_1 7 rfl rfl)
theorem dX8_read_32 : decode cX8_read 32 = .ok (.iload_n 2, 1) := dk_28 (dk_at dksX8_read_1 8 rfl rfl)
theorem dX8_read_33 : decode cX8_read 33 = .ok (.iconst (-1), 1) := dk_2 (dk_at dksX8_read_1 9 rfl rfl)
theorem dX8_read_34 : decode cX8_read 34 = .ok (.if_icmp .eq 7, 3) := dk_159 0 7 (dk_at dksX8_read_1 10 rfl rfl)
theorem dX8_read_37 : decode cX8_read 37 = .ok (.iconst 1, 1) := dk_4 (dk_at dksX8_read_1 13 rfl rfl)
theorem dX8_read_38 : decode cX8_read 38 = .ok (.goto 4, 3) := dk_167 0 4 (dk_at dksX8_read_1 14 rfl rfl)
theorem dX8_read_41 : decode cX8_read 41 = .ok (.iconst 0, 1) := dk_3 (dk_at dksX8_read_1 17 rfl rfl)
theorem dX8_read_42 : decode cX8_read 42 = .ok (.iconst 1, 1) := dk_4 (dk_at dksX8_read_1 18 rfl rfl)
theorem dX8_read_43 : decode cX8_read 43 = .ok (.invokevirtual 35, 3) := dk_182 0 35 (dk_at dksX8_read_1 19 rfl rfl)
theorem dX8_read_46 : decode cX8_read 46 = .ok (.aload_n 0, 1) := dk_42 (dk_at dksX8_read_1 22 rfl rfl)
theorem dX8_read_47 : decode cX8_read 47 = .ok (.aload_n 1, 1) := dk_43 (dk_at dksX8_read_1 23 rfl rfl)
theorem dX8_read_48 : decode cX8_read 48 = .ok (.getfield 39, 3) := dk_180 0 39 (dk_at dksX8_read_2 0 rfl rfl)
theorem dX8_read_51 : decode cX8_read 51 = .ok (.bipush 60, 2) := dk_16 60 (dk_at dksX8_read_2 3 rfl rfl)
theorem dX8_read_53 : decode cX8_read 53 = .ok (.if_icmp .ge 7, 3) := dk_162 0 7 (dk_at dksX8_read_2 5 rfl rfl)
theorem dX8_read_56 : decode cX8_read 56 = .ok (.iconst 1, 1) := dk_4 (dk_at dksX8_read_2 8 rfl rfl)
theorem dX8_read_57 : decode cX8_read 57 = .ok (.goto 4, 3) := dk_167 0 4 (dk_at dksX8_read_2 9 rfl rfl)
theorem dX8_read_60 : decode cX8_read 60 = .ok (.iconst 0, 1) := dk_3 (dk_at dksX8_read_2 12 rfl rfl)
theorem dX8_read_61 : decode cX8_read 61 = .ok (.iconst 4, 1) := dk_7 (dk_at dksX8_read_2 13 rfl rfl)
theorem dX8_read_62 : decode cX8_read 62 = .ok (.invokevirtual 35, 3) := dk_182 0 35 (dk_at dksX8_read_2 14 rfl rfl)
theorem dX8_read_65 : decode cX8_read 65 = .ok (.aload_n 0, 1) := dk_42 (dk_at dksX8_read_2 17 rfl rfl)
theorem dX8_read_66 : decode cX8_read 66 = .ok (.invokevirtual 42, 3) := dk_182 0 42 (dk_at dksX8_read_2 18 rfl rfl)
theorem dX8_read_69 : decode cX8_read 69 = .ok (.aload_n 1, 1) := dk_43 (dk_at dksX8_read_2 21 rfl rfl)
theorem dX8_read_70 : decode cX8_read 70 = .ok (.getfield 45, 3) := dk_180 0 45 (dk_at dksX8_read_3 0 rfl rfl)
theorem dX8_read_73 : decode cX8_read 73 = .ok (.aload_n 1, 1) := dk_43 (dk_at dksX8_read_3 3 rfl rfl)
theorem dX8_read_74 : decode cX8_read 74 = .ok (.getfield 39, 3) := dk_180 0 39 (dk_at dksX8_read_3 4 rfl rfl)
theorem dX8_read_77 : decode cX8_read 77 = .ok (.aload_n 0, 1) := dk_42 (dk_at dksX8_read_3 7 rfl rfl)
theorem dX8_read_78 : decode cX8_read 78 = .ok (.iload_n 2, 1) := dk_28 (dk_at dksX8_read_3 8 rfl rfl)
theorem dX8_read_79 : decode cX8_read 79 = .ok (.invokevirtual 49, 3) := dk_182 0 49 (dk_at dksX8_read_3 9 rfl rfl)
theorem dX8_read_82 : decode cX8_read 82 = .ok (.aastore, 1) := dk_83 (dk_at dksX8_read_3 12 rfl rfl)
theorem dX8_read_83 : decode cX8_read 83 = .ok (.aload_n 1, 1) := dk_43 (dk_at dksX8_read_3 13 rfl rfl)
theorem dX8_read_84 : decode cX8_read 84 = .ok (.dup, 1) := dk_89 (dk_at dksX8_read_3 14 rfl rfl)
theorem dX8_read_85 : decode cX8_read 85 = .ok (.getfield 39, 3) := dk_180 0 39 (dk_at dksX8_read_3 15 rfl rfl)
theorem dX8_read_88 : decode cX8_read 88 = .ok (.iconst 1, 1) := dk_4 (dk_at dksX8_read_3 18 rfl rfl)
theorem dX8_read_89 : decode cX8_read 89 = .ok (.iadd, 1) := dk_96 (dk_at dksX8_read_3 19 rfl rfl)
theorem dX8_read_90 : decode cX8_read 90 = .ok (.putfield 39, 3) := dk_181 0 39 (dk_at dksX8_read_3 20 rfl rfl)
theorem dX8_read_93 : decode cX8_read 93 = .ok (.aload_n 0, 1) := dk_42 (dk_at dksX8_read_3 23 rfl rfl)
theorem dX8_read_94 : decode cX8_read 94 = .ok (.bipush 59, 2) := dk_16 59 (dk_at dksX8_read_4 0 rfl rfl)
theorem dX8_read_96 : decode cX8_read 96 = .ok (.invokevirtual 53, 3) := dk_182 0 53 (dk_at dksX8_read_4 2 rfl rfl)
theorem dX8_read_99 : decode cX8_read 99 = .ok (.goto (-87), 3) := dk_167 255 169 (dk_at dksX8_read_4 5 rfl rfl)
theorem dX8_read_102 : decode cX8_read 102 = .ok (.aload_n 1, 1) := dk_43 (dk_at dksX8_read_4 8 rfl rfl)
theorem dX8_read_103 : decode cX8_read 103 = .ok (.areturn, 1) := dk_176 (dk_at dksX8_read_4 9 rfl rfl)
theorem fl_X8_23 : gFl "BitingDoors$DayReader" 23 [6] 3 := by
  intro args s hts hN ci hc
  simp only [List.mem_cons, List.not_mem_nil, or_false] at hc
  subst hc
  exact ⟨RX8, TX8, 9, "BitingDoors$DayReader", gCl_X8, in_X8, by decide, Or.inl (hts _ q394), u_same (hts _ q395)⟩
theorem fl_X8_27 : gFl "BitingDoors$DayReader" 27 [0] 8 := by
  intro args s hts hN ci hc
  simp only [List.mem_cons, List.not_mem_nil, or_false] at hc
  subst hc
  exact ⟨RX1, TX1, 46, "BitingDoors", gCl_X1, in_X1, by decide, Or.inr ⟨"BitingDoors", va_Nw.use rfl (hN.1 ("BitingDoors$DayReader", 27, "BitingDoors", "does", "[Ljava/lang/String;", "BitingDoors") (List.mem_of_getElem? (i := 61) rfl))⟩, fun _ h => h⟩
theorem fl_X8_39 : gFl "BitingDoors$DayReader" 39 [4] 1 := by
  intro args s hts hN ci hc
  simp only [List.mem_cons, List.not_mem_nil, or_false] at hc
  subst hc
  exact ⟨RX5, TX5, 2, "BitingDoors$Day", gCl_X5, in_X5, by decide, Or.inr ⟨"BitingDoors", va_Nw.use rfl (hN.1 ("BitingDoors$DayReader", 39, "BitingDoors$Day", "many", "I", "BitingDoors") (List.mem_of_getElem? (i := 59) rfl))⟩, fun _ h => h⟩
theorem fl_X8_45 : gFl "BitingDoors$DayReader" 45 [4] 0 := by
  intro args s hts hN ci hc
  simp only [List.mem_cons, List.not_mem_nil, or_false] at hc
  subst hc
  exact ⟨RX5, TX5, 2, "BitingDoors$Day", gCl_X5, in_X5, by decide, Or.inr ⟨"BitingDoors", va_Nw.use rfl (hN.1 ("BitingDoors$DayReader", 45, "BitingDoors$Day", "acts", "[LBitingDoors$Act;", "BitingDoors") (List.mem_of_getElem? (i := 58) rfl))⟩, fun _ h => h⟩
theorem fp_X8_39 {nm : String} : gFp "BitingDoors$DayReader" nm 39 [4] 1 .int := by
  intro args s hts hN ci hc
  simp only [List.mem_cons, List.not_mem_nil, or_false] at hc
  subst hc
  exact ⟨RX5, TX5, 2, "BitingDoors$Day", gCl_X5, in_X5, by decide, Or.inl ⟨rfl, Or.inr ⟨"BitingDoors", va_Nw.use rfl (hN.1 ("BitingDoors$DayReader", 39, "BitingDoors$Day", "many", "I", "BitingDoors") (List.mem_of_getElem? (i := 59) rfl))⟩⟩, fun _ h => h, rfl, fun D tys hK => gap_X5 hts hK⟩
theorem hu_X8_20 : ∀ ci ∈ [6], ∃ rr : vw_C, gCl[ci]? = some rr ∧ GoodIn lw_all (va_wsU "BitingDoors$DayReader" 20 rr.1 "BitingDoors$Reader" ⟨"BitingDoors$DayReader", "begin", "()V"⟩ yX6_begin (ws_ yX6_begin cX6_begin 1 none)) := by
  intro ci hc
  simp only [List.mem_cons, List.not_mem_nil, or_false] at hc
  subst hc
  refine ⟨_, gCl_X8, lw_app (fun w hw => ?_) (lw_meth q671)⟩
  simp only [List.mem_cons, List.not_mem_nil, or_false] at hw
  rcases hw with e | e | e | e | e
  · rw [e]; exact q1025
  · rw [e]; exact q1026
  · rw [e]; exact q1027
  · rw [e]; exact q670
  · rw [e]; exact q116
theorem hu_X8_53 : ∀ ci ∈ [6], ∃ rr : vw_C, gCl[ci]? = some rr ∧ GoodIn lw_all (va_wsU "BitingDoors$DayReader" 53 rr.1 "BitingDoors$Reader" ⟨"BitingDoors$DayReader", "sign", "(I)V"⟩ yX6_sign (ws_ yX6_sign cX6_sign 2 none)) := by
  intro ci hc
  simp only [List.mem_cons, List.not_mem_nil, or_false] at hc
  subst hc
  refine ⟨_, gCl_X8, lw_app (fun w hw => ?_) (lw_meth q912)⟩
  simp only [List.mem_cons, List.not_mem_nil, or_false] at hw
  rcases hw with e | e | e | e | e
  · rw [e]; exact q1103
  · rw [e]; exact q1104
  · rw [e]; exact q1105
  · rw [e]; exact q911
  · rw [e]; exact q116
theorem nw_X8_15 : gNw "BitingDoors$DayReader" 15 4 2 [.null, .int 0] := ⟨RX5, TX5, tyX5, gCl_X5, in_X5, tyX5_ok, q1023, q359, q115, by decide, rfl⟩
theorem dn_X8_read : yX8_read.cls ≠ "java/lang/invoke/MethodHandle" ∧ yX8_read.cls ≠ "java/lang/invoke/VarHandle" ∧ (parseMethodDescriptor yX8_read.desc).map (fun d => d.parameters.length) = some 0 := by decide +kernel
noncomputable def M_X8_read (t : Nat) : Mo (Nat ⊕ Nat) := Mo.bind (chk [6] t) (fun _ => Mo.bind (nw 4 2 [.null, .int 0]) (fun q1 => Mo.bind (M_X5_init q1) (fun v2 => Mo.bind (Mo.bind (chk [6] t) (fun _ => M_X6_begin t)) (fun v3 => Mo.loop (S := Unit) (fun s4 => Mo.bind (gI [6] t 3) (fun v7 => if v7 = 0 then Mo.pure (Sum.inr (Sum.inr q1)) else Mo.bind (gR [6] t 8) (fun v8 => Mo.bind (gR [0] v8 8) (fun v9 => Mo.bind (Mo.bind (chk [6] t) (fun _ => M_X6_find t v9)) (fun v10 => Mo.bind ((if v10 = (-1) then Mo.pure false else Mo.pure true : Mo (Bool))) (fun u11 => Mo.bind (Mo.bind (chk [6] t) (fun _ => M_X6_must t u11 1)) (fun w => Mo.cs w (fun b => Mo.pure (Sum.inr (Sum.inl b))) (fun v12 => Mo.bind (gI [4] q1 1) (fun v13 => Mo.bind ((if 60 ≤ v13 then Mo.pure false else Mo.pure true : Mo (Bool))) (fun u14 => Mo.bind (Mo.bind (chk [6] t) (fun _ => M_X6_must t u14 4)) (fun w => Mo.cs w (fun b => Mo.pure (Sum.inr (Sum.inl b))) (fun v15 => Mo.bind (Mo.bind (chk [6] t) (fun _ => M_X6_next t)) (fun v16 => Mo.bind (gR [4] q1 0) (fun v17 => Mo.bind (gI [4] q1 1) (fun v18 => Mo.bind (M_X8_act t v10) (fun w => Mo.cs w (fun b => Mo.pure (Sum.inr (Sum.inl b))) (fun v19 => Mo.bind (astN 6 v17 [11, 12, 13, 14] v18 (some v19)) (fun _ => Mo.bind (gI [4] q1 1) (fun v20 => Mo.bind (pF [4] q1 1 (.int (v20 + 1))) (fun _ => Mo.bind (Mo.bind (chk [6] t) (fun _ => M_X6_sign t 59)) (fun w => Mo.cs w (fun b => Mo.pure (Sum.inr (Sum.inl b))) (fun v21 => Mo.pure (Sum.inl ()))))))))))))))))))))))) ()))))
set_option maxHeartbeats 4000000 in
theorem ct_X8_read (G : gG) (t : Nat) : gCx G yX8_read cX8_read 3 (some (.object "BitingDoors$Day")) 9 193 [.ref t] (M_X8_read t) (fun x : Nat => some (.ref x)) := by
  refine gCx.of (by decide) (Nat.le_of_ble_eq_true rfl) (fun K r hG X hex hd ho => ?_)
  subst hG
  have X : gX K cX8_read 3 "BitingDoors$DayReader" "read" (some (.object "BitingDoors$Day")) 9 193 := X
  have hle : gLe (kh1 K) (kh1 K) := gLe.rf
  show V K 3 (kh0 K) 0 [(0, .ref t)] []
  generalize kh0 K = h at hd ⊢
  unfold M_X8_read at hd
  obtain ⟨-, hd⟩ := chk_some hd
  refine v_new X hd hle nw_X8_15 dX8_read_0 (fun q1 h hd => ?_)
  refine v_dup X dX8_read_3 rfl ?_
  refine v_callIN (host := "BitingDoors") X hd hle (ct_X5_init _ q1) (List.mem_of_getElem? (i := 10) rfl) q362 q115 q361 rfl dn_X5_init rfl ⟨by decide, by decide⟩ rfl (Nat.le_of_ble_eq_true rfl) dX8_read_4 (fun v2 h hd => ?_)
  show V K 3 h 7 [(0, .ref t)] [.ref q1]
  refine v_astore_n (lv2 := [(1, .ref q1), (0, .ref t)]) X dX8_read_7 1 rfl (by decide) rfl ?_
  refine v_aload_n X dX8_read_8 1 0 rfl rfl ?_
  refine v_callU X hd hle (ct_X6_begin _ t) hu_X8_20 rfl dn_X6_begin rfl ⟨by decide, by decide⟩ rfl (Nat.le_of_ble_eq_true rfl) dX8_read_9 (fun v3 h hd => ?_)
  show V K 3 h 12 [(1, .ref q1), (0, .ref t)] []
  refine v_loc [1, 0] rfl ?_
  refine loop_ind hd (fun (s4 : Unit) h => V K 3 h 12 [(0, .ref t), (1, .ref q1)] []) (fun s4 h x h2 hd hle0 ih5 ho6 => ?_)
  have hle := hle0.tr hle
  refine v_aload_n X dX8_read_12 0 0 rfl rfl ?_
  refine v_getI X hd fl_X8_23 dX8_read_13 (fun v7 hd => ?_)
  refine v_if_eq (tgt := 102) X dX8_read_16 (by decide) (fun q => ?_) (fun q => ?_)
  · have hd := ite_t q hd
    refine v_aload_n X dX8_read_102 1 1 rfl rfl ?_
    have hd := lp_out hd ho6
    obtain ⟨rfl, hx⟩ := px_inr hd
    exact v_aret X rfl (Or.inl ⟨_, rfl⟩) hx ho dX8_read_103
  · have hd := ite_f q hd
    refine v_aload_n X dX8_read_19 0 0 rfl rfl ?_
    refine v_aload_n X dX8_read_20 0 0 rfl rfl ?_
    refine v_getR X hd fl_X8_3 dX8_read_21 (fun v8 hd => ?_)
    refine v_getR X hd fl_X8_27 dX8_read_24 (fun v9 hd => ?_)
    refine v_callU X hd hle (ct_X6_find _ t v9) hu_X8_31 rfl dn_X6_find rfl ⟨by decide, by decide⟩ rfl (Nat.le_of_ble_eq_true rfl) dX8_read_27 (fun v10 h hd => ?_)
    show V K 3 h 30 [(0, .ref t), (1, .ref q1)] [.int v10]
    refine v_istore_n (lv2 := [(2, .int v10), (0, .ref t), (1, .ref q1)]) X dX8_read_30 2 rfl (by decide) rfl ?_
    refine v_aload_n X dX8_read_31 1 0 rfl rfl ?_
    refine v_iload_n X dX8_read_32 0 2 rfl rfl ?_
    refine v_iconst (v := (-1)) X dX8_read_33 (by decide) ?_
    obtain ⟨u11, h1, hd, hd2⟩ := Mo.bind_some hd
    have KJ : V K 3 h1 42 [(0, .ref t), (1, .ref q1), (2, .int v10)] [.int (b2i u11), .ref t] := by
      clear hd
      have hd := hd2
      refine v_iconst (v := 1) X dX8_read_42 (by decide) ?_
      refine v_callUX X hd hle (ct_X6_must _ t u11 1) hu_X8_35 rfl dn_X6_must rfl q116 q764 ⟨by decide, by decide⟩ rfl (Nat.le_of_ble_eq_true rfl) dX8_read_43 (fun v12 h hd => ?_) (fun b h hd => ?_)
      · show V K 3 h 46 [(0, .ref t), (1, .ref q1), (2, .int v10)] []
        have hd := cs_r hd
        refine v_aload_n X dX8_read_46 0 0 rfl rfl ?_
        refine v_aload_n X dX8_read_47 1 1 rfl rfl ?_
        refine v_getI X hd fl_X8_39 dX8_read_48 (fun v13 hd => ?_)
        refine v_bipush (v := 60) X dX8_read_51 (by decide) ?_
        obtain ⟨u14, h1, hd, hd2⟩ := Mo.bind_some hd
        have KJ : V K 3 h1 61 [(0, .ref t), (1, .ref q1), (2, .int v10)] [.int (b2i u14), .ref t] := by
          clear hd
          have hd := hd2
          refine v_iconst (v := 4) X dX8_read_61 (by decide) ?_
          refine v_callUX X hd hle (ct_X6_must _ t u14 4) hu_X8_35 rfl dn_X6_must rfl q116 q764 ⟨by decide, by decide⟩ rfl (Nat.le_of_ble_eq_true rfl) dX8_read_62 (fun v15 h hd => ?_) (fun b h hd => ?_)
          · show V K 3 h 65 [(0, .ref t), (1, .ref q1), (2, .int v10)] []
            have hd := cs_r hd
            refine v_aload_n X dX8_read_65 0 0 rfl rfl ?_
            refine v_callU X hd hle (ct_X6_next _ t) hu_X8_42 rfl dn_X6_next rfl ⟨by decide, by decide⟩ rfl (Nat.le_of_ble_eq_true rfl) dX8_read_66 (fun v16 h hd => ?_)
            show V K 3 h 69 [(0, .ref t), (1, .ref q1), (2, .int v10)] []
            refine v_aload_n X dX8_read_69 1 1 rfl rfl ?_
            refine v_getR X hd fl_X8_45 dX8_read_70 (fun v17 hd => ?_)
            refine v_aload_n X dX8_read_73 1 1 rfl rfl ?_
            refine v_getI X hd fl_X8_39 dX8_read_74 (fun v18 hd => ?_)
            refine v_aload_n X dX8_read_77 0 0 rfl rfl ?_
            refine v_iload_n X dX8_read_78 2 2 rfl rfl ?_
            refine v_callVX X hd hle (ct_X8_act _ t v10) gCl_X8 q1037 q1039 qs11 q118 q1040 dn_X8_act rfl ⟨by decide, by decide⟩ rfl (Nat.le_of_ble_eq_true rfl) dX8_read_79 (fun v19 h hd => ?_) (fun b h hd => ?_)
            · show V K 3 h 82 [(0, .ref t), (1, .ref q1), (2, .int v10)] [.ref v19, .int v18, .ref v17]
              have hd := cs_r hd
              refine v_astN (x := (some v19)) X hd 6 rfl (by decide) (by decide) gca_6 dX8_read_82 (fun h hd => ?_)
              refine v_aload_n X dX8_read_83 1 1 rfl rfl ?_
              refine v_dup X dX8_read_84 rfl ?_
              refine v_getI X hd fl_X8_39 dX8_read_85 (fun v20 hd => ?_)
              refine v_iconst (v := 1) X dX8_read_88 (by decide) ?_
              refine v_iadd X dX8_read_89 ?_
              refine v_put (v := .int (v20 + 1)) X hd fp_X8_39 rfl rfl dX8_read_90 (fun h hd => ?_)
              refine v_aload_n X dX8_read_93 0 0 rfl rfl ?_
              refine v_bipush (v := 59) X dX8_read_94 (by decide) ?_
              refine v_callUX X hd hle (ct_X6_sign _ t 59) hu_X8_53 rfl dn_X6_sign rfl q116 q912 ⟨by decide, by decide⟩ rfl (Nat.le_of_ble_eq_true rfl) dX8_read_96 (fun v21 h hd => ?_) (fun b h hd => ?_)
              · show V K 3 h 99 [(0, .ref t), (1, .ref q1), (2, .int v10)] []
                have hd := cs_r hd
                refine v_goto (tgt := 12) X dX8_read_99 (by decide) ?_
                exact v_loc [0, 1] rfl (lp_in (P := fun (s4 : Unit) h => V K 3 h 12 [(0, .ref t), (1, .ref q1)] []) hd ih5)
              · have hd := cs_l hd
                have hd := lp_out hd ho6
                obtain ⟨rfl, hh⟩ := px_inl hd
                exact vx_leave X hex ho hh
            · have hd := cs_l hd
              have hd := lp_out hd ho6
              obtain ⟨rfl, hh⟩ := px_inl hd
              exact vx_leave X hex ho hh
          · have hd := cs_l hd
            have hd := lp_out hd ho6
            obtain ⟨rfl, hh⟩ := px_inl hd
            exact vx_leave X hex ho hh
        have hle := (Mo.le hd2).tr hle
        clear hd2
        refine v_icmp_ge (tgt := 60) X dX8_read_53 (by decide) (fun q => ?_) (fun q => ?_)
        · have hd := ite_t q hd
          refine v_iconst (v := 0) X dX8_read_60 (by decide) ?_
          exact v_loc [0, 1, 2] rfl (v_at (P := fun (u14 : Bool) h => V K 3 h 61 [(0, .ref t), (1, .ref q1), (2, .int v10)] [.int (b2i u14), .ref t]) hd KJ)
        · have hd := ite_f q hd
          refine v_iconst (v := 1) X dX8_read_56 (by decide) ?_
          refine v_goto (tgt := 61) X dX8_read_57 (by decide) ?_
          exact v_loc [0, 1, 2] rfl (v_at (P := fun (u14 : Bool) h => V K 3 h 61 [(0, .ref t), (1, .ref q1), (2, .int v10)] [.int (b2i u14), .ref t]) hd KJ)
      · have hd := cs_l hd
        have hd := lp_out hd ho6
        obtain ⟨rfl, hh⟩ := px_inl hd
        exact vx_leave X hex ho hh
    have hle := (Mo.le hd2).tr hle
    clear hd2
    refine v_icmp_eq (tgt := 41) X dX8_read_34 (by decide) (fun q => ?_) (fun q => ?_)
    · have hd := ite_t q hd
      refine v_iconst (v := 0) X dX8_read_41 (by decide) ?_
      exact v_loc [1, 2, 0] rfl (v_at (P := fun (u11 : Bool) h => V K 3 h 42 [(0, .ref t), (1, .ref q1), (2, .int v10)] [.int (b2i u11), .ref t]) hd KJ)
    · have hd := ite_f q hd
      refine v_iconst (v := 1) X dX8_read_37 (by decide) ?_
      refine v_goto (tgt := 42) X dX8_read_38 (by decide) ?_
      exact v_loc [1, 2, 0] rfl (v_at (P := fun (u11 : Bool) h => V K 3 h 42 [(0, .ref t), (1, .ref q1), (2, .int v10)] [.int (b2i u11), .ref t]) hd KJ)
def dkwX9_counts_3 : List UInt8 := [182, 0, 68, 187, 0, 130, 89, 27, 28, 29, 183, 0, 132, 176]
abbrev dktX9_counts_3 : List UInt8 := dkwX9_counts_3 ++ []
def dkwX9_counts_2 : List UInt8 := [42, 42, 180, 0, 52, 5, 160, 0, 7, 4, 167, 0, 4, 3, 4, 182, 0, 55, 42, 180, 0, 127, 62, 42]
abbrev dktX9_counts_2 : List UInt8 := dkwX9_counts_2 ++ dktX9_counts_3
def dkwX9_counts_1 : List UInt8 := [182, 0, 86, 153, 0, 7, 4, 167, 0, 4, 3, 4, 182, 0, 55, 42, 180, 0, 127, 61, 42, 182, 0, 68]
abbrev dktX9_counts_1 : List UInt8 := dkwX9_counts_1 ++ dktX9_counts_2
def dkwX9_counts_0 : List UInt8 := [42, 42, 16, 60, 182, 0, 86, 154, 0, 21, 42, 16, 61, 182, 0, 86, 154, 0, 12, 42, 16, 62]
abbrev dktX9_counts_0 : List UInt8 := dkwX9_counts_0 ++ dktX9_counts_1
theorem dksX9_counts_0 : cX9_counts.data.toList.drop 0 = dktX9_counts_0 := by decide +kernel
theorem dksX9_counts_1 : cX9_counts.data.toList.drop 22 = dktX9_counts_1 := dk_seg dksX9_counts_0 22 rfl rfl
theorem dksX9_counts_2 : cX9_counts.data.toList.drop 46 = dktX9_counts_2 := dk_seg dksX9_counts_1 24 rfl rfl
theorem dksX9_counts_3 : cX9_counts.data.toList.drop 70 = dktX9_counts_3 := dk_seg dksX9_counts_2 24 rfl rfl
theorem dX9_counts_0 : decode cX9_counts 0 = .ok (.aload_n 0, 1) := dk_42 (dk_at dksX9_counts_0 0 rfl rfl)
theorem dX9_counts_1 : decode cX9_counts 1 = .ok (.aload_n 0, 1) := dk_42 (dk_at dksX9_counts_0 1 rfl rfl)
theorem dX9_counts_2 : decode cX9_counts 2 = .ok (.bipush 60, 2) := dk_16 60 (dk_at dksX9_counts_0 2 rfl rfl)
theorem dX9_counts_4 : decode cX9_counts 4 = .ok (.invokevirtual 86, 3) := dk_182 0 86 (dk_at dksX9_counts_0 4 rfl rfl)
theorem dX9_counts_7 : decode cX9_counts 7 = .ok (.ifCond .ne 21, 3) := dk_154 0 21 (dk_at dksX9_counts_0 7 rfl rfl)
theorem dX9_counts_10 : decode cX9_counts 10 = .ok (.aload_n 0, 1) := dk_42 (dk_at dksX9_counts_0 10 rfl rfl)
theorem dX9_counts_11 : decode cX9_counts 11 = .ok (.bipush 61, 2) := dk_16 61 (dk_at dksX9_counts_0 11 rfl rfl)
theorem dX9_counts_13 : decode cX9_counts 13 = .ok (.invokevirtual 86, 3) := dk_182 0 86 (dk_at dksX9_counts_0 13 rfl rfl)
theorem dX9_counts_16 : decode cX9_counts 16 = .ok (.ifCond .ne 12, 3) := dk_154 0 12 (dk_at dksX9_counts_0 16 rfl rfl)
theorem dX9_counts_19 : decode cX9_counts 19 = .ok (.aload_n 0, 1) := dk_42 (dk_at dksX9_counts_0 19 rfl rfl)
theorem dX9_counts_20 : decode cX9_counts 20 = .ok (.bipush 62, 2) := dk_16 62 (dk_at dksX9_counts_0 20 rfl rfl)
theorem dX9_counts_22 : decode cX9_counts 22 = .ok (.invokevirtual 86, 3) := dk_182 0 86 (dk_at dksX9_counts_1 0 rfl rfl)
theorem dX9_counts_25 : decode cX9_counts 25 = .ok (.ifCond .eq 7, 3) := dk_153 0 7 (dk_at dksX9_counts_1 3 rfl rfl)
theorem dX9_counts_28 : decode cX9_counts 28 = .ok (.iconst 1, 1) := dk_4 (dk_at dksX9_counts_1 6 rfl rfl)
theorem dX9_counts_29 : decode cX9_counts 29 = .ok (.goto 4, 3) := dk_167 0 4 (dk_at dksX9_counts_1 7 rfl rfl)
theorem dX9_counts_32 : decode cX9_counts 32 = .ok (.iconst 0, 1) := dk_3 (dk_at dksX9_counts_1 10 rfl rfl)
theorem dX9_counts_33 : decode cX9_counts 33 = .ok (.iconst 1, 1) := dk_4 (dk_at dksX9_counts_1 11 rfl rfl)
theorem dX9_counts_34 : decode cX9_counts 34 = .ok (.invokevirtual 55, 3) := dk_182 0 55 (dk_at dksX9_counts_1 12 rfl rfl)
theorem dX9_counts_37 : decode cX9_counts 37 = .ok (.aload_n 0, 1) := dk_42 (dk_at dksX9_counts_1 15 rfl rfl)
theorem dX9_counts_38 : decode cX9_counts 38 = .ok (.getfield 127, 3) := dk_180 0 127 (dk_at dksX9_counts_1 16 rfl rfl)
theorem dX9_counts_41 : decode cX9_counts 41 = .ok (.istore_n 2, 1) := dk_61 (dk_at dksX9_counts_1 19 rfl rfl)
theorem dX9_counts_42 : decode cX9_counts 42 = .ok (.aload_n 0, 1) := dk_42 (dk_at dksX9_counts_1 20 rfl rfl)
theorem dX9_counts_43 : decode cX9_counts 43 = .ok (.invokevirtual 68, 3) := dk_182 0 68 (dk_at dksX9_counts_1 21 rfl rfl)
theorem dX9_counts_46 : decode cX9_counts 46 = .ok (.aload_n 0, 1) := dk_42 (dk_at dksX9_counts_2 0 rfl rfl)
theorem dX9_counts_47 : decode cX9_counts 47 = .ok (.aload_n 0, 1) := dk_42 (dk_at dksX9_counts_2 1 rfl rfl)
theorem dX9_counts_48 : decode cX9_counts 48 = .ok (.getfield 52, 3) := dk_180 0 52 (dk_at dksX9_counts_2 2 rfl rfl)
theorem dX9_counts_51 : decode cX9_counts 51 = .ok (.iconst 2, 1) := dk_5 (dk_at dksX9_counts_2 5 rfl rfl)
theorem dX9_counts_52 : decode cX9_counts 52 = .ok (.if_icmp .ne 7, 3) := dk_160 0 7 (dk_at dksX9_counts_2 6 rfl rfl)
theorem dX9_counts_55 : decode cX9_counts 55 = .ok (.iconst 1, 1) := dk_4 (dk_at dksX9_counts_2 9 rfl rfl)
theorem dX9_counts_56 : decode cX9_counts 56 = .ok (.goto 4, 3) := dk_167 0 4 (dk_at dksX9_counts_2 10 rfl rfl)
theorem dX9_counts_59 : decode cX9_counts 59 = .ok (.iconst 0, 1) := dk_3 (dk_at dksX9_counts_2 13 rfl rfl)
theorem dX9_counts_60 : decode cX9_counts 60 = .ok (.iconst 1, 1) := dk_4 (dk_at dksX9_counts_2 14 rfl rfl)
theorem dX9_counts_61 : decode cX9_counts 61 = .ok (.invokevirtual 55, 3) := dk_182 0 55 (dk_at dksX9_counts_2 15 rfl rfl)
theorem dX9_counts_64 : decode cX9_counts 64 = .ok (.aload_n 0, 1) := dk_42 (dk_at dksX9_counts_2 18 rfl rfl)
theorem dX9_counts_65 : decode cX9_counts 65 = .ok (.getfield 127, 3) := dk_180 0 127 (dk_at dksX9_counts_2 19 rfl rfl)
theorem dX9_counts_68 : decode cX9_counts 68 = .ok (.istore_n 3, 1) := dk_62 (dk_at dksX9_counts_2 22 rfl rfl)
theorem dX9_counts_69 : decode cX9_counts 69 = .ok (.aload_n 0, 1) := dk_42 (dk_at dksX9_counts_2 23 rfl rfl)
theorem dX9_counts_70 : decode cX9_counts 70 = .ok (.invokevirtual 68, 3) := dk_182 0 68 (dk_at dksX9_counts_3 0 rfl rfl)
theorem dX9_counts_73 : decode cX9_counts 73 = .ok (.new 130, 3) := dk_187 0 130 (dk_at dksX9_counts_3 3 rfl rfl)
theorem dX9_counts_76 : decode cX9_counts 76 = .ok (.dup, 1) := dk_89 (dk_at dksX9_counts_3 6 rfl rfl)
theorem dX9_counts_77 : decode cX9_counts 77 = .ok (.iload_n 1, 1) := dk_27 (dk_at dksX9_counts_3 7 rfl rfl)
theorem dX9_counts_78 : decode cX9_counts 78 = .ok (.iload_n 2, 1) := dk_28 (dk_at dksX9_counts_3 8 rfl rfl)
theorem dX9_counts_79 : decode cX9_counts 79 = .ok (.iload_n 3, 1) := dk_29 (dk_at dksX9_counts_3 9 rfl rfl)
theorem dX9_counts_80 : decode cX9_counts 80 = .ok (.invokespecial 132, 3) := dk_183 0 132 (dk_at dksX9_counts_3 10 rfl rfl)
theorem dX9_counts_83 : decode cX9_counts 83 = .ok (.areturn, 1) := dk_176 (dk_at dksX9_counts_3 13 rfl rfl)
theorem fl_X9_127 : gFl "BitingDoors$SentenceReader" 127 [7] 4 := by
  intro args s hts hN ci hc
  simp only [List.mem_cons, List.not_mem_nil, or_false] at hc
  subst hc
  exact ⟨RX9, TX9, 12, "BitingDoors$SentenceReader", gCl_X9, in_X9, by decide, Or.inl (hts _ q401), u_same (hts _ q402)⟩
theorem fl_X9_52 : gFl "BitingDoors$SentenceReader" 52 [7] 3 := by
  intro args s hts hN ci hc
  simp only [List.mem_cons, List.not_mem_nil, or_false] at hc
  subst hc
  exact ⟨RX9, TX9, 12, "BitingDoors$SentenceReader", gCl_X9, in_X9, by decide, Or.inl (hts _ q396), u_same (hts _ q397)⟩
theorem hu_X9_55 : ∀ ci ∈ [7], ∃ rr : vw_C, gCl[ci]? = some rr ∧ GoodIn lw_all (va_wsU "BitingDoors$SentenceReader" 55 rr.1 "BitingDoors$Reader" ⟨"BitingDoors$SentenceReader", "must", "(ZI)V"⟩ yX6_must (ws_ yX6_must cX6_must 3 none)) := by
  intro ci hc
  simp only [List.mem_cons, List.not_mem_nil, or_false] at hc
  subst hc
  refine ⟨_, gCl_X9, lw_app (fun w hw => ?_) (lw_meth q764)⟩
  simp only [List.mem_cons, List.not_mem_nil, or_false] at hw
  rcases hw with e | e | e | e | e
  · rw [e]; exact q1467
  · rw [e]; exact q1468
  · rw [e]; exact q1469
  · rw [e]; exact q763
  · rw [e]; exact q116
theorem hu_X9_68 : ∀ ci ∈ [7], ∃ rr : vw_C, gCl[ci]? = some rr ∧ GoodIn lw_all (va_wsU "BitingDoors$SentenceReader" 68 rr.1 "BitingDoors$Reader" ⟨"BitingDoors$SentenceReader", "next", "()V"⟩ yX6_next (ws_ yX6_next cX6_next 2 none)) := by
  intro ci hc
  simp only [List.mem_cons, List.not_mem_nil, or_false] at hc
  subst hc
  refine ⟨_, gCl_X9, lw_app (fun w hw => ?_) (lw_meth q678)⟩
  simp only [List.mem_cons, List.not_mem_nil, or_false] at hw
  rcases hw with e | e | e | e | e
  · rw [e]; exact q1470
  · rw [e]; exact q1471
  · rw [e]; exact q1472
  · rw [e]; exact q673
  · rw [e]; exact q116
theorem hu_X9_86 : ∀ ci ∈ [7], ∃ rr : vw_C, gCl[ci]? = some rr ∧ GoodIn lw_all (va_wsU "BitingDoors$SentenceReader" 86 rr.1 "BitingDoors$Reader" ⟨"BitingDoors$SentenceReader", "is", "(I)Z"⟩ yX6_is_2 (ws_ yX6_is_2 cX6_is_2 2 (some .boolean))) := by
  intro ci hc
  simp only [List.mem_cons, List.not_mem_nil, or_false] at hc
  subst hc
  refine ⟨_, gCl_X9, lw_app (fun w hw => ?_) (lw_meth q919)⟩
  simp only [List.mem_cons, List.not_mem_nil, or_false] at hw
  rcases hw with e | e | e | e | e
  · rw [e]; exact q1459
  · rw [e]; exact q1460
  · rw [e]; exact q1462
  · rw [e]; exact q914
  · rw [e]; exact q116
theorem nw_X9_130 : gNw "BitingDoors$SentenceReader" 130 18 3 [.int 0, .int 0, .int 0] := ⟨RX23, TX23, tyX23, gCl_X23, in_X23, tyX23_ok, q1516, q1517, q143, by decide, rfl⟩
theorem dn_X9_counts : yX9_counts.cls ≠ "java/lang/invoke/MethodHandle" ∧ yX9_counts.cls ≠ "java/lang/invoke/VarHandle" ∧ (parseMethodDescriptor yX9_counts.desc).map (fun d => d.parameters.length) = some 1 := by decide +kernel
noncomputable def M_X9_counts (t : Nat) (p1 : Int32) : Mo (Nat ⊕ Nat) := Mo.bind (chk [7] t) (fun _ => Mo.bind (Mo.bind (chk [7] t) (fun _ => M_X6_is_2 t 60)) (fun v1 => Mo.bind ((cond v1 (Mo.pure true) (Mo.bind (Mo.bind (chk [7] t) (fun _ => M_X6_is_2 t 61)) (fun v13 => cond v13 (Mo.pure true) (Mo.bind (Mo.bind (chk [7] t) (fun _ => M_X6_is_2 t 62)) (fun v14 => cond v14 (Mo.pure true) (Mo.pure false))))) : Mo (Bool))) (fun u2 => Mo.bind (Mo.bind (chk [7] t) (fun _ => M_X6_must t u2 1)) (fun w => Mo.cs w (fun b => Mo.pure (Sum.inl b)) (fun v3 => Mo.bind (gI [7] t 4) (fun v4 => Mo.bind (Mo.bind (chk [7] t) (fun _ => M_X6_next t)) (fun v5 => Mo.bind (gI [7] t 3) (fun v6 => Mo.bind ((if v6 = 2 then Mo.pure true else Mo.pure false : Mo (Bool))) (fun u7 => Mo.bind (Mo.bind (chk [7] t) (fun _ => M_X6_must t u7 1)) (fun w => Mo.cs w (fun b => Mo.pure (Sum.inl b)) (fun v8 => Mo.bind (gI [7] t 4) (fun v9 => Mo.bind (Mo.bind (chk [7] t) (fun _ => M_X6_next t)) (fun v10 => Mo.bind (nw 18 3 [.int 0, .int 0, .int 0]) (fun q11 => Mo.bind (M_X23_init q11 p1 v4 v9) (fun v12 => Mo.pure (Sum.inr q11))))))))))))))))
set_option maxHeartbeats 4000000 in
theorem ct_X9_counts (G : gG) (t : Nat) (p1 : Int32) : gCx G yX9_counts cX9_counts 4 (some (.object "BitingDoors$Cond")) 4 86 [.ref t, .int p1] (M_X9_counts t p1) (fun x : Nat => some (.ref x)) := by
  refine gCx.of (by decide) (Nat.le_of_ble_eq_true rfl) (fun K r hG X hex hd ho => ?_)
  subst hG
  have X : gX K cX9_counts 4 "BitingDoors$SentenceReader" "counts" (some (.object "BitingDoors$Cond")) 4 86 := X
  have hle : gLe (kh1 K) (kh1 K) := gLe.rf
  show V K 4 (kh0 K) 0 [(0, .ref t), (1, .int p1)] []
  generalize kh0 K = h at hd ⊢
  unfold M_X9_counts at hd
  obtain ⟨-, hd⟩ := chk_some hd
  refine v_aload_n X dX9_counts_0 0 0 rfl rfl ?_
  refine v_aload_n X dX9_counts_1 0 0 rfl rfl ?_
  refine v_bipush (v := 60) X dX9_counts_2 (by decide) ?_
  refine v_callU X hd hle (ct_X6_is_2 _ t 60) hu_X9_86 rfl dn_X6_is_2 rfl ⟨by decide, by decide⟩ rfl (Nat.le_of_ble_eq_true rfl) dX9_counts_4 (fun v1 h hd => ?_)
  show V K 4 h 7 [(0, .ref t), (1, .int p1)] [.int (b2i v1), .ref t]
  obtain ⟨u2, h1, hd, hd2⟩ := Mo.bind_some hd
  have KJ : V K 4 h1 33 [(0, .ref t), (1, .int p1)] [.int (b2i u2), .ref t] := by
    clear hd
    have hd := hd2
    refine v_iconst (v := 1) X dX9_counts_33 (by decide) ?_
    refine v_callUX X hd hle (ct_X6_must _ t u2 1) hu_X9_55 rfl dn_X6_must rfl q116 q764 ⟨by decide, by decide⟩ rfl (Nat.le_of_ble_eq_true rfl) dX9_counts_34 (fun v3 h hd => ?_) (fun b h hd => ?_)
    · show V K 4 h 37 [(0, .ref t), (1, .int p1)] []
      have hd := cs_r hd
      refine v_aload_n X dX9_counts_37 0 0 rfl rfl ?_
      refine v_getI X hd fl_X9_127 dX9_counts_38 (fun v4 hd => ?_)
      refine v_istore_n (lv2 := [(2, .int v4), (0, .ref t), (1, .int p1)]) X dX9_counts_41 2 rfl (by decide) rfl ?_
      refine v_aload_n X dX9_counts_42 1 0 rfl rfl ?_
      refine v_callU X hd hle (ct_X6_next _ t) hu_X9_68 rfl dn_X6_next rfl ⟨by decide, by decide⟩ rfl (Nat.le_of_ble_eq_true rfl) dX9_counts_43 (fun v5 h hd => ?_)
      show V K 4 h 46 [(2, .int v4), (0, .ref t), (1, .int p1)] []
      refine v_aload_n X dX9_counts_46 1 0 rfl rfl ?_
      refine v_aload_n X dX9_counts_47 1 0 rfl rfl ?_
      refine v_getI X hd fl_X9_52 dX9_counts_48 (fun v6 hd => ?_)
      refine v_iconst (v := 2) X dX9_counts_51 (by decide) ?_
      obtain ⟨u7, h1, hd, hd2⟩ := Mo.bind_some hd
      have KJ : V K 4 h1 60 [(0, .ref t), (1, .int p1), (2, .int v4)] [.int (b2i u7), .ref t] := by
        clear hd
        have hd := hd2
        refine v_iconst (v := 1) X dX9_counts_60 (by decide) ?_
        refine v_callUX X hd hle (ct_X6_must _ t u7 1) hu_X9_55 rfl dn_X6_must rfl q116 q764 ⟨by decide, by decide⟩ rfl (Nat.le_of_ble_eq_true rfl) dX9_counts_61 (fun v8 h hd => ?_) (fun b h hd => ?_)
        · show V K 4 h 64 [(0, .ref t), (1, .int p1), (2, .int v4)] []
          have hd := cs_r hd
          refine v_aload_n X dX9_counts_64 0 0 rfl rfl ?_
          refine v_getI X hd fl_X9_127 dX9_counts_65 (fun v9 hd => ?_)
          refine v_istore_n (lv2 := [(3, .int v9), (0, .ref t), (1, .int p1), (2, .int v4)]) X dX9_counts_68 3 rfl (by decide) rfl ?_
          refine v_aload_n X dX9_counts_69 1 0 rfl rfl ?_
          refine v_callU X hd hle (ct_X6_next _ t) hu_X9_68 rfl dn_X6_next rfl ⟨by decide, by decide⟩ rfl (Nat.le_of_ble_eq_true rfl) dX9_counts_70 (fun v10 h hd => ?_)
          show V K 4 h 73 [(3, .int v9), (0, .ref t), (1, .int p1), (2, .int v4)] []
          refine v_new X hd hle nw_X9_130 dX9_counts_73 (fun q11 h hd => ?_)
          refine v_dup X dX9_counts_76 rfl ?_
          refine v_iload_n X dX9_counts_77 2 1 rfl rfl ?_
          refine v_iload_n X dX9_counts_78 3 2 rfl rfl ?_
          refine v_iload_n X dX9_counts_79 0 3 rfl rfl ?_
          refine v_callI X hd hle (ct_X23_init _ q11 p1 v4 v9) q1520 q143 q1518 q1519 rfl dn_X23_init rfl ⟨by decide, by decide⟩ rfl (Nat.le_of_ble_eq_true rfl) dX9_counts_80 (fun v12 h hd => ?_)
          show V K 4 h 83 [(3, .int v9), (0, .ref t), (1, .int p1), (2, .int v4)] [.ref q11]
          obtain ⟨rfl, hx⟩ := px_inr hd
          exact v_aret X rfl (Or.inl ⟨_, rfl⟩) hx ho dX9_counts_83
        · have hd := cs_l hd
          obtain ⟨rfl, hh⟩ := px_inl hd
          exact vx_leave X hex ho hh
      have hle := (Mo.le hd2).tr hle
      clear hd2
      refine v_icmp_ne (tgt := 59) X dX9_counts_52 (by decide) (fun q => ?_) (fun q => ?_)
      · have hd := ite_f q hd
        refine v_iconst (v := 0) X dX9_counts_59 (by decide) ?_
        exact v_loc [1, 2, 0] rfl (v_at (P := fun (u7 : Bool) h => V K 4 h 60 [(0, .ref t), (1, .int p1), (2, .int v4)] [.int (b2i u7), .ref t]) hd KJ)
      · have hd := ite_t q hd
        refine v_iconst (v := 1) X dX9_counts_55 (by decide) ?_
        refine v_goto (tgt := 60) X dX9_counts_56 (by decide) ?_
        exact v_loc [1, 2, 0] rfl (v_at (P := fun (u7 : Bool) h => V K 4 h 60 [(0, .ref t), (1, .int p1), (2, .int v4)] [.int (b2i u7), .ref t]) hd KJ)
    · have hd := cs_l hd
      obtain ⟨rfl, hh⟩ := px_inl hd
      exact vx_leave X hex ho hh
  have hle := (Mo.le hd2).tr hle
  clear hd2
  refine v_ifZ_ne (tgt := 28) X dX9_counts_7 (by decide) (fun q => ?_) (fun q => ?_)
  · have hd := cnd_t q hd
    refine v_iconst (v := 1) X dX9_counts_28 (by decide) ?_
    refine v_goto (tgt := 33) X dX9_counts_29 (by decide) ?_
    exact v_loc [0, 1] rfl (v_at (P := fun (u2 : Bool) h => V K 4 h 33 [(0, .ref t), (1, .int p1)] [.int (b2i u2), .ref t]) hd KJ)
  · have hd := cnd_f q hd
    refine v_aload_n X dX9_counts_10 0 0 rfl rfl ?_
    refine v_bipush (v := 61) X dX9_counts_11 (by decide) ?_
    refine v_callU X hd hle (ct_X6_is_2 _ t 61) hu_X9_86 rfl dn_X6_is_2 rfl ⟨by decide, by decide⟩ rfl (Nat.le_of_ble_eq_true rfl) dX9_counts_13 (fun v13 h hd => ?_)
    show V K 4 h 16 [(0, .ref t), (1, .int p1)] [.int (b2i v13), .ref t]
    refine v_ifZ_ne (tgt := 28) X dX9_counts_16 (by decide) (fun q => ?_) (fun q => ?_)
    · have hd := cnd_t q hd
      refine v_iconst (v := 1) X dX9_counts_28 (by decide) ?_
      refine v_goto (tgt := 33) X dX9_counts_29 (by decide) ?_
      exact v_loc [0, 1] rfl (v_at (P := fun (u2 : Bool) h => V K 4 h 33 [(0, .ref t), (1, .int p1)] [.int (b2i u2), .ref t]) hd KJ)
    · have hd := cnd_f q hd
      refine v_aload_n X dX9_counts_19 0 0 rfl rfl ?_
      refine v_bipush (v := 62) X dX9_counts_20 (by decide) ?_
      refine v_callU X hd hle (ct_X6_is_2 _ t 62) hu_X9_86 rfl dn_X6_is_2 rfl ⟨by decide, by decide⟩ rfl (Nat.le_of_ble_eq_true rfl) dX9_counts_22 (fun v14 h hd => ?_)
      show V K 4 h 25 [(0, .ref t), (1, .int p1)] [.int (b2i v14), .ref t]
      refine v_ifZ_eq (tgt := 32) X dX9_counts_25 (by decide) (fun q => ?_) (fun q => ?_)
      · have hd := cnd_f q hd
        refine v_iconst (v := 0) X dX9_counts_32 (by decide) ?_
        exact v_loc [0, 1] rfl (v_at (P := fun (u2 : Bool) h => V K 4 h 33 [(0, .ref t), (1, .int p1)] [.int (b2i u2), .ref t]) hd KJ)
      · have hd := cnd_t q hd
        refine v_iconst (v := 1) X dX9_counts_28 (by decide) ?_
        refine v_goto (tgt := 33) X dX9_counts_29 (by decide) ?_
        exact v_loc [0, 1] rfl (v_at (P := fun (u2 : Bool) h => V K 4 h 33 [(0, .ref t), (1, .int p1)] [.int (b2i u2), .ref t]) hd KJ)
