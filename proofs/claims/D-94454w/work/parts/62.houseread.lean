set_option maxRecDepth 100000
def dkwX7_draught_5 : List UInt8 := [180, 0, 50, 4, 96, 181, 0, 50, 177]
abbrev dktX7_draught_5 : List UInt8 := dkwX7_draught_5 ++ []
def dkwX7_draught_4 : List UInt8 := [180, 0, 165, 27, 28, 96, 29, 79, 42, 182, 0, 53, 132, 2, 1, 167, 255, 161, 42, 180, 0, 15, 89]
abbrev dktX7_draught_4 : List UInt8 := dkwX7_draught_4 ++ dktX7_draught_5
def dkwX7_draught_3 : List UInt8 := [180, 0, 165, 27, 4, 96, 46, 159, 0, 7, 4, 167, 0, 4, 3, 6, 182, 0, 35, 42, 180, 0, 15]
abbrev dktX7_draught_3 : List UInt8 := dkwX7_draught_3 ++ dktX7_draught_4
def dkwX7_draught_2 : List UInt8 := [42, 180, 0, 15, 180, 0, 165, 27, 46, 159, 0, 27, 28, 5, 161, 0, 18, 29, 42, 180, 0, 15]
abbrev dktX7_draught_2 : List UInt8 := dkwX7_draught_2 ++ dktX7_draught_3
def dkwX7_draught_1 : List UInt8 := [182, 0, 35, 42, 42, 180, 0, 15, 182, 0, 104, 62, 42, 29, 2, 159, 0, 45, 28, 4, 161, 0, 16, 29]
abbrev dktX7_draught_1 : List UInt8 := dkwX7_draught_1 ++ dktX7_draught_2
def dkwX7_draught_0 : List UInt8 := [6, 42, 180, 0, 15, 180, 0, 50, 104, 60, 3, 61, 28, 6, 162, 0, 96, 42, 42, 182, 0, 101, 4]
abbrev dktX7_draught_0 : List UInt8 := dkwX7_draught_0 ++ dktX7_draught_1
theorem dksX7_draught_0 : cX7_draught.data.toList.drop 0 = dktX7_draught_0 := by decide +kernel
theorem dksX7_draught_1 : cX7_draught.data.toList.drop 23 = dktX7_draught_1 := dk_seg dksX7_draught_0 23 rfl rfl
theorem dksX7_draught_2 : cX7_draught.data.toList.drop 47 = dktX7_draught_2 := dk_seg dksX7_draught_1 24 rfl rfl
theorem dksX7_draught_3 : cX7_draught.data.toList.drop 69 = dktX7_draught_3 := dk_seg dksX7_draught_2 22 rfl rfl
theorem dksX7_draught_4 : cX7_draught.data.toList.drop 92 = dktX7_draught_4 := dk_seg dksX7_draught_3 23 rfl rfl
theorem dksX7_draught_5 : cX7_draught.data.toList.drop 115 = dktX7_draught_5 := dk_seg dksX7_draught_4 23 rfl rfl
theorem dX7_draught_0 : decode cX7_draught 0 = .ok (.iconst 3, 1) := dk_6 (dk_at dksX7_draught_0 0 rfl rfl)
theorem dX7_draught_1 : decode cX7_draught 1 = .ok (.aload_n 0, 1) := dk_42 (dk_at dksX7_draught_0 1 rfl rfl)
theorem dX7_draught_2 : decode cX7_draught 2 = .ok (.getfield 15, 3) := dk_180 0 15 (dk_at dksX7_draught_0 2 rfl rfl)
theorem dX7_draught_5 : decode cX7_draught 5 = .ok (.getfield 50, 3) := dk_180 0 50 (dk_at dksX7_draught_0 5 rfl rfl)
theorem dX7_draught_8 : decode cX7_draught 8 = .ok (.imul, 1) := dk_104 (dk_at dksX7_draught_0 8 rfl rfl)
theorem dX7_draught_9 : decode cX7_draught 9 = .ok (.istore_n 1, 1) := dk_60 (dk_at dksX7_draught_0 9 rfl rfl)
theorem dX7_draught_10 : decode cX7_draught 10 = .ok (.iconst 0, 1) := dk_3 (dk_at dksX7_draught_0 10 rfl rfl)
theorem dX7_draught_11 : decode cX7_draught 11 = .ok (.istore_n 2, 1) := dk_61 (dk_at dksX7_draught_0 11 rfl rfl)
theorem dX7_draught_12 : decode cX7_draught 12 = .ok (.iload_n 2, 1) := dk_28 (dk_at dksX7_draught_0 12 rfl rfl)
theorem dX7_draught_13 : decode cX7_draught 13 = .ok (.iconst 3, 1) := dk_6 (dk_at dksX7_draught_0 13 rfl rfl)
theorem dX7_draught_14 : decode cX7_draught 14 = .ok (.if_icmp .ge 96, 3) := dk_162 0 96 (dk_at dksX7_draught_0 14 rfl rfl)
theorem dX7_draught_17 : decode cX7_draught 17 = .ok (.aload_n 0, 1) := dk_42 (dk_at dksX7_draught_0 17 rfl rfl)
theorem dX7_draught_18 : decode cX7_draught 18 = .ok (.aload_n 0, 1) := dk_42 (dk_at dksX7_draught_0 18 rfl rfl)
theorem dX7_draught_19 : decode cX7_draught 19 = .ok (.invokevirtual 101, 3) := dk_182 0 101 (dk_at dksX7_draught_0 19 rfl rfl)
theorem dX7_draught_22 : decode cX7_draught 22 = .ok (.iconst 1, 1) := dk_4 (dk_at dksX7_draught_0 22 rfl rfl)
theorem dX7_draught_23 : decode cX7_draught 23 = .ok (.invokevirtual 35, 3) := dk_182 0 35 (dk_at dksX7_draught_1 0 rfl rfl)
theorem dX7_draught_26 : decode cX7_draught 26 = .ok (.aload_n 0, 1) := dk_42 (dk_at dksX7_draught_1 3 rfl rfl)
theorem dX7_draught_27 : decode cX7_draught 27 = .ok (.aload_n 0, 1) := dk_42 (dk_at dksX7_draught_1 4 rfl rfl)
theorem dX7_draught_28 : decode cX7_draught 28 = .ok (.getfield 15, 3) := dk_180 0 15 (dk_at dksX7_draught_1 5 rfl rfl)
theorem dX7_draught_31 : decode cX7_draught 31 = .ok (.invokevirtual 104, 3) := dk_182 0 104 (dk_at dksX7_draught_1 8 rfl rfl)
theorem dX7_draught_34 : decode cX7_draught 34 = .ok (.istore_n 3, 1) := dk_62 (dk_at dksX7_draught_1 11 rfl rfl)
theorem dX7_draught_35 : decode cX7_draught 35 = .ok (.aload_n 0, 1) := dk_42 (dk_at dksX7_draught_1 12 rfl rfl)
theorem dX7_draught_36 : decode cX7_draught 36 = .ok (.iload_n 3, 1) := dk_29 (dk_at dksX7_draught_1 13 rfl rfl)
theorem dX7_draught_37 : decode cX7_draught 37 = .ok (.iconst (-1), 1) := dk_2 (dk_at dksX7_draught_1 14 rfl rfl)
theorem dX7_draught_38 : decode cX7_draught 38 = .ok (.if_icmp .eq 45, 3) := dk_159 0 45 (dk_at dksX7_draught_1 15 rfl rfl)
theorem dX7_draught_41 : decode cX7_draught 41 = .ok (.iload_n 2, 1) := dk_28 (dk_at dksX7_draught_1 18 rfl rfl)
theorem dX7_draught_42 : decode cX7_draught 42 = .ok (.iconst 1, 1) := dk_4 (dk_at dksX7_draught_1 19 rfl rfl)
theorem dX7_draught_43 : decode cX7_draught 43 = .ok (.if_icmp .lt 16, 3) := dk_161 0 16 (dk_at dksX7_draught_1 20 rfl rfl)
theorem dX7_draught_46 : decode cX7_draught 46 = .ok (.iload_n 3, 1) := dk_29 (dk_at dksX7_draught_1 23 rfl rfl)
theorem dX7_draught_47 : decode cX7_draught 47 = .ok (.aload_n 0, 1) := dk_42 (dk_at dksX7_draught_2 0 rfl rfl)
theorem dX7_draught_48 : decode cX7_draught 48 = .ok (.getfield 15, 3) := dk_180 0 15 (dk_at dksX7_draught_2 1 rfl rfl)
theorem dX7_draught_51 : decode cX7_draught 51 = .ok (.getfield 165, 3) := dk_180 0 165 (dk_at dksX7_draught_2 4 rfl rfl)
theorem dX7_draught_54 : decode cX7_draught 54 = .ok (.iload_n 1, 1) := dk_27 (dk_at dksX7_draught_2 7 rfl rfl)
theorem dX7_draught_55 : decode cX7_draught 55 = .ok (.iaload, 1) := dk_46 (dk_at dksX7_draught_2 8 rfl rfl)
theorem dX7_draught_56 : decode cX7_draught 56 = .ok (.if_icmp .eq 27, 3) := dk_159 0 27 (dk_at dksX7_draught_2 9 rfl rfl)
theorem dX7_draught_59 : decode cX7_draught 59 = .ok (.iload_n 2, 1) := dk_28 (dk_at dksX7_draught_2 12 rfl rfl)
theorem dX7_draught_60 : decode cX7_draught 60 = .ok (.iconst 2, 1) := dk_5 (dk_at dksX7_draught_2 13 rfl rfl)
theorem dX7_draught_61 : decode cX7_draught 61 = .ok (.if_icmp .lt 18, 3) := dk_161 0 18 (dk_at dksX7_draught_2 14 rfl rfl)
theorem dX7_draught_64 : decode cX7_draught 64 = .ok (.iload_n 3, 1) := dk_29 (dk_at dksX7_draught_2 17 rfl rfl)
theorem dX7_draught_65 : decode cX7_draught 65 = .ok (.aload_n 0, 1) := dk_42 (dk_at dksX7_draught_2 18 rfl rfl)
theorem dX7_draught_66 : decode cX7_draught 66 = .ok (.getfield 15, 3) := dk_180 0 15 (dk_at dksX7_draught_2 19 rfl rfl)
theorem dX7_draught_69 : decode cX7_draught 69 = .ok (.getfield 165, 3) := dk_180 0 165 (dk_at dksX7_draught_3 0 rfl rfl)
theorem dX7_draught_72 : decode cX7_draught 72 = .ok (.iload_n 1, 1) := dk_27 (dk_at dksX7_draught_3 3 rfl rfl)
theorem dX7_draught_73 : decode cX7_draught 73 = .ok (.iconst 1, 1) := dk_4 (dk_at dksX7_draught_3 4 rfl rfl)
theorem dX7_draught_74 : decode cX7_draught 74 = .ok (.iadd, 1) := dk_96 (dk_at dksX7_draught_3 5 rfl rfl)
theorem dX7_draught_75 : decode cX7_draught 75 = .ok (.iaload, 1) := dk_46 (dk_at dksX7_draught_3 6 rfl rfl)
theorem dX7_draught_76 : decode cX7_draught 76 = .ok (.if_icmp .eq 7, 3) := dk_159 0 7 (dk_at dksX7_draught_3 7 rfl rfl)
theorem dX7_draught_79 : decode cX7_draught 79 = .ok (.iconst 1, 1) := dk_4 (dk_at dksX7_draught_3 10 rfl rfl)
theorem dX7_draught_80 : decode cX7_draught 80 = .ok (.goto 4, 3) := dk_167 0 4 (dk_at dksX7_draught_3 11 rfl rfl)
theorem dX7_draught_83 : decode cX7_draught 83 = .ok (.iconst 0, 1) := dk_3 (dk_at dksX7_draught_3 14 rfl rfl)
theorem dX7_draught_84 : decode cX7_draught 84 = .ok (.iconst 3, 1) := dk_6 (dk_at dksX7_draught_3 15 rfl rfl)
theorem dX7_draught_85 : decode cX7_draught 85 = .ok (.invokevirtual 35, 3) := dk_182 0 35 (dk_at dksX7_draught_3 16 rfl rfl)
theorem dX7_draught_88 : decode cX7_draught 88 = .ok (.aload_n 0, 1) := dk_42 (dk_at dksX7_draught_3 19 rfl rfl)
theorem dX7_draught_89 : decode cX7_draught 89 = .ok (.getfield 15, 3) := dk_180 0 15 (dk_at dksX7_draught_3 20 rfl rfl)
theorem dX7_draught_92 : decode cX7_draught 92 = .ok (.getfield 165, 3) := dk_180 0 165 (dk_at dksX7_draught_4 0 rfl rfl)
theorem dX7_draught_95 : decode cX7_draught 95 = .ok (.iload_n 1, 1) := dk_27 (dk_at dksX7_draught_4 3 rfl rfl)
theorem dX7_draught_96 : decode cX7_draught 96 = .ok (.iload_n 2, 1) := dk_28 (dk_at dksX7_draught_4 4 rfl rfl)
theorem dX7_draught_97 : decode cX7_draught 97 = .ok (.iadd, 1) := dk_96 (dk_at dksX7_draught_4 5 rfl rfl)
theorem dX7_draught_98 : decode cX7_draught 98 = .ok (.iload_n 3, 1) := dk_29 (dk_at dksX7_draught_4 6 rfl rfl)
theorem dX7_draught_99 : decode cX7_draught 99 = .ok (.iastore, 1) := dk_79 (dk_at dksX7_draught_4 7 rfl rfl)
theorem dX7_draught_100 : decode cX7_draught 100 = .ok (.aload_n 0, 1) := dk_42 (dk_at dksX7_draught_4 8 rfl rfl)
theorem dX7_draught_101 : decode cX7_draught 101 = .ok (.invokevirtual 53, 3) := dk_182 0 53 (dk_at dksX7_draught_4 9 rfl rfl)
theorem dX7_draught_104 : decode cX7_draught 104 = .ok (.iinc 2 1, 3) := dk_132 2 1 (dk_at dksX7_draught_4 12 rfl rfl)
theorem dX7_draught_107 : decode cX7_draught 107 = .ok (.goto (-95), 3) := dk_167 255 161 (dk_at dksX7_draught_4 15 rfl rfl)
theorem dX7_draught_110 : decode cX7_draught 110 = .ok (.aload_n 0, 1) := dk_42 (dk_at dksX7_draught_4 18 rfl rfl)
theorem dX7_draught_111 : decode cX7_draught 111 = .ok (.getfield 15, 3) := dk_180 0 15 (dk_at dksX7_draught_4 19 rfl rfl)
theorem dX7_draught_114 : decode cX7_draught 114 = .ok (.dup, 1) := dk_89 (dk_at dksX7_draught_4 22 rfl rfl)
theorem dX7_draught_115 : decode cX7_draught 115 = .ok (.getfield 50, 3) := dk_180 0 50 (dk_at dksX7_draught_5 0 rfl rfl)
theorem dX7_draught_118 : decode cX7_draught 118 = .ok (.iconst 1, 1) := dk_4 (dk_at dksX7_draught_5 3 rfl rfl)
theorem dX7_draught_119 : decode cX7_draught 119 = .ok (.iadd, 1) := dk_96 (dk_at dksX7_draught_5 4 rfl rfl)
theorem dX7_draught_120 : decode cX7_draught 120 = .ok (.putfield 50, 3) := dk_181 0 50 (dk_at dksX7_draught_5 5 rfl rfl)
theorem dX7_draught_123 : decode cX7_draught 123 = .ok (.return_, 1) := dk_177 (dk_at dksX7_draught_5 8 rfl rfl)
theorem fl_X7_165 : gFl "BitingDoors$HouseReader" 165 [3] 1 := by
  intro args s hts hN ci hc
  simp only [List.mem_cons, List.not_mem_nil, or_false] at hc
  subst hc
  exact ⟨RX4, TX4, 9, "BitingDoors$House", gCl_X4, in_X4, by decide, Or.inr ⟨"BitingDoors", va_Nw.use rfl (hN.1 ("BitingDoors$HouseReader", 165, "BitingDoors$House", "draughts", "[I", "BitingDoors") (List.mem_of_getElem? (i := 44) rfl))⟩, fun _ h => h⟩
theorem fl_X7_50 : gFl "BitingDoors$HouseReader" 50 [3] 7 := by
  intro args s hts hN ci hc
  simp only [List.mem_cons, List.not_mem_nil, or_false] at hc
  subst hc
  exact ⟨RX4, TX4, 9, "BitingDoors$House", gCl_X4, in_X4, by decide, Or.inr ⟨"BitingDoors", va_Nw.use rfl (hN.1 ("BitingDoors$HouseReader", 50, "BitingDoors$House", "draughtMany", "I", "BitingDoors") (List.mem_of_getElem? (i := 49) rfl))⟩, fun _ h => h⟩
theorem fp_X7_50 {nm : String} : gFp "BitingDoors$HouseReader" nm 50 [3] 7 .int := by
  intro args s hts hN ci hc
  simp only [List.mem_cons, List.not_mem_nil, or_false] at hc
  subst hc
  exact ⟨RX4, TX4, 9, "BitingDoors$House", gCl_X4, in_X4, by decide, Or.inl ⟨rfl, Or.inr ⟨"BitingDoors", va_Nw.use rfl (hN.1 ("BitingDoors$HouseReader", 50, "BitingDoors$House", "draughtMany", "I", "BitingDoors") (List.mem_of_getElem? (i := 49) rfl))⟩⟩, fun _ h => h, rfl, fun D tys hK => gap_X4 hts hK⟩
theorem hu_X7_101 : ∀ ci ∈ [5], ∃ rr : vw_C, gCl[ci]? = some rr ∧ GoodIn lw_all (va_wsU "BitingDoors$HouseReader" 101 rr.1 "BitingDoors$Reader" ⟨"BitingDoors$HouseReader", "isName", "()Z"⟩ yX6_isName (ws_ yX6_isName cX6_isName 1 (some .boolean))) := by
  intro ci hc
  simp only [List.mem_cons, List.not_mem_nil, or_false] at hc
  subst hc
  refine ⟨_, gCl_X7, lw_app (fun w hw => ?_) (lw_meth q799)⟩
  simp only [List.mem_cons, List.not_mem_nil, or_false] at hw
  rcases hw with e | e | e | e | e
  · rw [e]; exact q794
  · rw [e]; exact q795
  · rw [e]; exact q797
  · rw [e]; exact q798
  · rw [e]; exact q116
theorem hu_X7_104 : ∀ ci ∈ [5], ∃ rr : vw_C, gCl[ci]? = some rr ∧ GoodIn lw_all (va_wsU "BitingDoors$HouseReader" 104 rr.1 "BitingDoors$Reader" ⟨"BitingDoors$HouseReader", "of", "(LBitingDoors$House;)I"⟩ yX6_of (ws_ yX6_of cX6_of 3 (some .int))) := by
  intro ci hc
  simp only [List.mem_cons, List.not_mem_nil, or_false] at hc
  subst hc
  refine ⟨_, gCl_X7, lw_app (fun w hw => ?_) (lw_meth q807)⟩
  simp only [List.mem_cons, List.not_mem_nil, or_false] at hw
  rcases hw with e | e | e | e | e
  · rw [e]; exact q802
  · rw [e]; exact q803
  · rw [e]; exact q805
  · rw [e]; exact q806
  · rw [e]; exact q116
theorem hu_X7_35 : ∀ ci ∈ [5], ∃ rr : vw_C, gCl[ci]? = some rr ∧ GoodIn lw_all (va_wsU "BitingDoors$HouseReader" 35 rr.1 "BitingDoors$Reader" ⟨"BitingDoors$HouseReader", "must", "(ZI)V"⟩ yX6_must (ws_ yX6_must cX6_must 3 none)) := by
  intro ci hc
  simp only [List.mem_cons, List.not_mem_nil, or_false] at hc
  subst hc
  refine ⟨_, gCl_X7, lw_app (fun w hw => ?_) (lw_meth q764)⟩
  simp only [List.mem_cons, List.not_mem_nil, or_false] at hw
  rcases hw with e | e | e | e | e
  · rw [e]; exact q759
  · rw [e]; exact q760
  · rw [e]; exact q762
  · rw [e]; exact q763
  · rw [e]; exact q116
theorem hu_X7_53 : ∀ ci ∈ [5], ∃ rr : vw_C, gCl[ci]? = some rr ∧ GoodIn lw_all (va_wsU "BitingDoors$HouseReader" 53 rr.1 "BitingDoors$Reader" ⟨"BitingDoors$HouseReader", "next", "()V"⟩ yX6_next (ws_ yX6_next cX6_next 2 none)) := by
  intro ci hc
  simp only [List.mem_cons, List.not_mem_nil, or_false] at hc
  subst hc
  refine ⟨_, gCl_X7, lw_app (fun w hw => ?_) (lw_meth q678)⟩
  simp only [List.mem_cons, List.not_mem_nil, or_false] at hw
  rcases hw with e | e | e | e | e
  · rw [e]; exact q772
  · rw [e]; exact q773
  · rw [e]; exact q775
  · rw [e]; exact q673
  · rw [e]; exact q116
theorem dn_X7_draught : yX7_draught.cls ≠ "java/lang/invoke/MethodHandle" ∧ yX7_draught.cls ≠ "java/lang/invoke/VarHandle" ∧ (parseMethodDescriptor yX7_draught.desc).map (fun d => d.parameters.length) = some 0 := by decide +kernel
noncomputable def M_X7_draught (t : Nat) : Mo (Nat ⊕ Unit) := Mo.bind (chk [5] t) (fun _ => Mo.bind (gR [5] t 8) (fun v1 => Mo.bind (gI [3] v1 7) (fun v2 => Mo.lv (3 * v2) (fun v3 => Mo.loop (S := Int32) (fun s4 => if 3 ≤ s4 then Mo.bind (gR [5] t 8) (fun v7 => Mo.bind (gI [3] v7 7) (fun v8 => Mo.bind (pF [3] v7 7 (.int (v8 + 1))) (fun _ => Mo.pure (Sum.inr (Sum.inr ()))))) else Mo.bind (Mo.bind (chk [5] t) (fun _ => M_X6_isName t)) (fun v9 => Mo.bind (Mo.bind (chk [5] t) (fun _ => M_X6_must t v9 1)) (fun w => Mo.cs w (fun b => Mo.pure (Sum.inr (Sum.inl b))) (fun v10 => Mo.bind (gR [5] t 8) (fun v11 => Mo.bind (Mo.bind (chk [5] t) (fun _ => M_X6_of t v11)) (fun v12 => Mo.bind ((if v12 = (-1) then Mo.pure false else if s4 < 1 then if s4 < 2 then Mo.pure true else Mo.bind (gR [5] t 8) (fun v19 => Mo.bind (gR [3] v19 1) (fun v20 => Mo.bind (aldI 0 v20 (v3 + 1)) (fun v21 => if v12 = v21 then Mo.pure false else Mo.pure true))) else Mo.bind (gR [5] t 8) (fun v22 => Mo.bind (gR [3] v22 1) (fun v23 => Mo.bind (aldI 0 v23 v3) (fun v24 => if v12 = v24 then Mo.pure false else if s4 < 2 then Mo.pure true else Mo.bind (gR [5] t 8) (fun v25 => Mo.bind (gR [3] v25 1) (fun v26 => Mo.bind (aldI 0 v26 (v3 + 1)) (fun v27 => if v12 = v27 then Mo.pure false else Mo.pure true)))))) : Mo (Bool))) (fun u13 => Mo.bind (Mo.bind (chk [5] t) (fun _ => M_X6_must t u13 3)) (fun w => Mo.cs w (fun b => Mo.pure (Sum.inr (Sum.inl b))) (fun v14 => Mo.bind (gR [5] t 8) (fun v15 => Mo.bind (gR [3] v15 1) (fun v16 => Mo.bind (astI 0 v16 (v3 + s4) v12) (fun _ => Mo.bind (Mo.bind (chk [5] t) (fun _ => M_X6_next t)) (fun v17 => Mo.lv (s4 + 1) (fun v18 => Mo.pure (Sum.inl v18))))))))))))))) 0))))
set_option maxHeartbeats 4000000 in
theorem ct_X7_draught (G : gG) (t : Nat) : gCx G yX7_draught cX7_draught 4 none 7 149 [.ref t] (M_X7_draught t) (fun _ : Unit => none) := by
  refine gCx.of (by decide) (Nat.le_of_ble_eq_true rfl) (fun K r hG X hex hd ho => ?_)
  subst hG
  have X : gX K cX7_draught 4 "BitingDoors$HouseReader" "draught" none 7 149 := X
  have hle : gLe (kh1 K) (kh1 K) := gLe.rf
  show V K 4 (kh0 K) 0 [(0, .ref t)] []
  generalize kh0 K = h at hd ⊢
  unfold M_X7_draught at hd
  obtain ⟨-, hd⟩ := chk_some hd
  refine v_iconst (v := 3) X dX7_draught_0 (by decide) ?_
  refine v_aload_n X dX7_draught_1 0 0 rfl rfl ?_
  refine v_getR X hd fl_X7_15 dX7_draught_2 (fun v1 hd => ?_)
  refine v_getI X hd fl_X7_50 dX7_draught_5 (fun v2 hd => ?_)
  refine v_imul X dX7_draught_8 ?_
  refine v_lvI hd (fun v3 hd => ?_)
  refine v_istore_n (lv2 := [(1, .int v3), (0, .ref t)]) X dX7_draught_9 1 rfl (by decide) rfl ?_
  refine v_iconst (v := 0) X dX7_draught_10 (by decide) ?_
  refine v_istore_n (lv2 := [(2, .int 0), (1, .int v3), (0, .ref t)]) X dX7_draught_11 2 rfl (by decide) rfl ?_
  refine v_loc [2, 1, 0] rfl ?_
  refine loop_ind hd (fun (s4 : Int32) h => V K 4 h 12 [(0, .ref t), (1, .int v3), (2, .int s4)] []) (fun s4 h x h2 hd hle0 ih5 ho6 => ?_)
  have hle := hle0.tr hle
  refine v_iload_n X dX7_draught_12 2 2 rfl rfl ?_
  refine v_iconst (v := 3) X dX7_draught_13 (by decide) ?_
  refine v_icmp_ge (tgt := 110) X dX7_draught_14 (by decide) (fun q => ?_) (fun q => ?_)
  · have hd := ite_t q hd
    refine v_aload_n X dX7_draught_110 0 0 rfl rfl ?_
    refine v_getR X hd fl_X7_15 dX7_draught_111 (fun v7 hd => ?_)
    refine v_dup X dX7_draught_114 rfl ?_
    refine v_getI X hd fl_X7_50 dX7_draught_115 (fun v8 hd => ?_)
    refine v_iconst (v := 1) X dX7_draught_118 (by decide) ?_
    refine v_iadd X dX7_draught_119 ?_
    refine v_put (v := .int (v8 + 1)) X hd fp_X7_50 rfl rfl dX7_draught_120 (fun h hd => ?_)
    have hd := lp_out hd ho6
    obtain ⟨rfl, hx⟩ := px_inr hd
    exact v_vret X hx ho dX7_draught_123
  · have hd := ite_f q hd
    refine v_aload_n X dX7_draught_17 0 0 rfl rfl ?_
    refine v_aload_n X dX7_draught_18 0 0 rfl rfl ?_
    refine v_callU X hd hle (ct_X6_isName _ t) hu_X7_101 rfl dn_X6_isName rfl ⟨by decide, by decide⟩ rfl (Nat.le_of_ble_eq_true rfl) dX7_draught_19 (fun v9 h hd => ?_)
    show V K 4 h 22 [(0, .ref t), (1, .int v3), (2, .int s4)] [.int (b2i v9), .ref t]
    refine v_iconst (v := 1) X dX7_draught_22 (by decide) ?_
    refine v_callUX X hd hle (ct_X6_must _ t v9 1) hu_X7_35 rfl dn_X6_must rfl q116 q764 ⟨by decide, by decide⟩ rfl (Nat.le_of_ble_eq_true rfl) dX7_draught_23 (fun v10 h hd => ?_) (fun b h hd => ?_)
    · show V K 4 h 26 [(0, .ref t), (1, .int v3), (2, .int s4)] []
      have hd := cs_r hd
      refine v_aload_n X dX7_draught_26 0 0 rfl rfl ?_
      refine v_aload_n X dX7_draught_27 0 0 rfl rfl ?_
      refine v_getR X hd fl_X7_15 dX7_draught_28 (fun v11 hd => ?_)
      refine v_callU X hd hle (ct_X6_of _ t v11) hu_X7_104 rfl dn_X6_of rfl ⟨by decide, by decide⟩ rfl (Nat.le_of_ble_eq_true rfl) dX7_draught_31 (fun v12 h hd => ?_)
      show V K 4 h 34 [(0, .ref t), (1, .int v3), (2, .int s4)] [.int v12]
      refine v_istore_n (lv2 := [(3, .int v12), (0, .ref t), (1, .int v3), (2, .int s4)]) X dX7_draught_34 3 rfl (by decide) rfl ?_
      refine v_aload_n X dX7_draught_35 1 0 rfl rfl ?_
      refine v_iload_n X dX7_draught_36 0 3 rfl rfl ?_
      refine v_iconst (v := (-1)) X dX7_draught_37 (by decide) ?_
      obtain ⟨u13, h1, hd, hd2⟩ := Mo.bind_some hd
      have KJ : V K 4 h1 84 [(0, .ref t), (1, .int v3), (2, .int s4), (3, .int v12)] [.int (b2i u13), .ref t] := by
        clear hd
        have hd := hd2
        refine v_iconst (v := 3) X dX7_draught_84 (by decide) ?_
        refine v_callUX X hd hle (ct_X6_must _ t u13 3) hu_X7_35 rfl dn_X6_must rfl q116 q764 ⟨by decide, by decide⟩ rfl (Nat.le_of_ble_eq_true rfl) dX7_draught_85 (fun v14 h hd => ?_) (fun b h hd => ?_)
        · show V K 4 h 88 [(0, .ref t), (1, .int v3), (2, .int s4), (3, .int v12)] []
          have hd := cs_r hd
          refine v_aload_n X dX7_draught_88 0 0 rfl rfl ?_
          refine v_getR X hd fl_X7_15 dX7_draught_89 (fun v15 hd => ?_)
          refine v_getR X hd fl_X7_165 dX7_draught_92 (fun v16 hd => ?_)
          refine v_iload_n X dX7_draught_95 1 1 rfl rfl ?_
          refine v_iload_n X dX7_draught_96 2 2 rfl rfl ?_
          refine v_iadd X dX7_draught_97 ?_
          refine v_iload_n X dX7_draught_98 3 3 rfl rfl ?_
          refine v_iast X hd dX7_draught_99 (fun h hd => ?_)
          refine v_aload_n X dX7_draught_100 0 0 rfl rfl ?_
          refine v_callU X hd hle (ct_X6_next _ t) hu_X7_53 rfl dn_X6_next rfl ⟨by decide, by decide⟩ rfl (Nat.le_of_ble_eq_true rfl) dX7_draught_101 (fun v17 h hd => ?_)
          show V K 4 h 104 [(0, .ref t), (1, .int v3), (2, .int s4), (3, .int v12)] []
          refine v_iincL (lv2 := fun v18 => [(2, .int v18), (0, .ref t), (1, .int v3), (3, .int v12)]) X hd dX7_draught_104 2 rfl (by decide : Int32.ofInt 1 = 1) (by decide) (fun v18 => rfl) (fun v18 hd => ?_)
          refine v_goto (tgt := 12) X dX7_draught_107 (by decide) ?_
          exact v_loc [1, 2, 0] rfl (lp_in (P := fun (s4 : Int32) h => V K 4 h 12 [(0, .ref t), (1, .int v3), (2, .int s4)] []) hd ih5)
        · have hd := cs_l hd
          have hd := lp_out hd ho6
          obtain ⟨rfl, hh⟩ := px_inl hd
          exact vx_leave X hex ho hh
      have hle := (Mo.le hd2).tr hle
      clear hd2
      refine v_icmp_eq (tgt := 83) X dX7_draught_38 (by decide) (fun q => ?_) (fun q => ?_)
      · have hd := ite_t q hd
        refine v_iconst (v := 0) X dX7_draught_83 (by decide) ?_
        exact v_loc [1, 2, 3, 0] rfl (v_at (P := fun (u13 : Bool) h => V K 4 h 84 [(0, .ref t), (1, .int v3), (2, .int s4), (3, .int v12)] [.int (b2i u13), .ref t]) hd KJ)
      · have hd := ite_f q hd
        refine v_iload_n X dX7_draught_41 3 2 rfl rfl ?_
        refine v_iconst (v := 1) X dX7_draught_42 (by decide) ?_
        refine v_icmp_lt (tgt := 59) X dX7_draught_43 (by decide) (fun q => ?_) (fun q => ?_)
        · have hd := ite_t q hd
          refine v_iload_n X dX7_draught_59 3 2 rfl rfl ?_
          refine v_iconst (v := 2) X dX7_draught_60 (by decide) ?_
          refine v_icmp_lt (tgt := 79) X dX7_draught_61 (by decide) (fun q => ?_) (fun q => ?_)
          · have hd := ite_t q hd
            refine v_iconst (v := 1) X dX7_draught_79 (by decide) ?_
            refine v_goto (tgt := 84) X dX7_draught_80 (by decide) ?_
            exact v_loc [1, 2, 3, 0] rfl (v_at (P := fun (u13 : Bool) h => V K 4 h 84 [(0, .ref t), (1, .int v3), (2, .int s4), (3, .int v12)] [.int (b2i u13), .ref t]) hd KJ)
          · have hd := ite_f q hd
            refine v_iload_n X dX7_draught_64 0 3 rfl rfl ?_
            refine v_aload_n X dX7_draught_65 1 0 rfl rfl ?_
            refine v_getR X hd fl_X7_15 dX7_draught_66 (fun v19 hd => ?_)
            refine v_getR X hd fl_X7_165 dX7_draught_69 (fun v20 hd => ?_)
            refine v_iload_n X dX7_draught_72 2 1 rfl rfl ?_
            refine v_iconst (v := 1) X dX7_draught_73 (by decide) ?_
            refine v_iadd X dX7_draught_74 ?_
            refine v_iald X hd dX7_draught_75 (fun v21 hd => ?_)
            refine v_icmp_eq (tgt := 83) X dX7_draught_76 (by decide) (fun q => ?_) (fun q => ?_)
            · have hd := ite_t q hd
              refine v_iconst (v := 0) X dX7_draught_83 (by decide) ?_
              exact v_loc [1, 2, 3, 0] rfl (v_at (P := fun (u13 : Bool) h => V K 4 h 84 [(0, .ref t), (1, .int v3), (2, .int s4), (3, .int v12)] [.int (b2i u13), .ref t]) hd KJ)
            · have hd := ite_f q hd
              refine v_iconst (v := 1) X dX7_draught_79 (by decide) ?_
              refine v_goto (tgt := 84) X dX7_draught_80 (by decide) ?_
              exact v_loc [1, 2, 3, 0] rfl (v_at (P := fun (u13 : Bool) h => V K 4 h 84 [(0, .ref t), (1, .int v3), (2, .int s4), (3, .int v12)] [.int (b2i u13), .ref t]) hd KJ)
        · have hd := ite_f q hd
          refine v_iload_n X dX7_draught_46 0 3 rfl rfl ?_
          refine v_aload_n X dX7_draught_47 1 0 rfl rfl ?_
          refine v_getR X hd fl_X7_15 dX7_draught_48 (fun v22 hd => ?_)
          refine v_getR X hd fl_X7_165 dX7_draught_51 (fun v23 hd => ?_)
          refine v_iload_n X dX7_draught_54 2 1 rfl rfl ?_
          refine v_iald X hd dX7_draught_55 (fun v24 hd => ?_)
          refine v_icmp_eq (tgt := 83) X dX7_draught_56 (by decide) (fun q => ?_) (fun q => ?_)
          · have hd := ite_t q hd
            refine v_iconst (v := 0) X dX7_draught_83 (by decide) ?_
            exact v_loc [1, 2, 3, 0] rfl (v_at (P := fun (u13 : Bool) h => V K 4 h 84 [(0, .ref t), (1, .int v3), (2, .int s4), (3, .int v12)] [.int (b2i u13), .ref t]) hd KJ)
          · have hd := ite_f q hd
            refine v_iload_n X dX7_draught_59 3 2 rfl rfl ?_
            refine v_iconst (v := 2) X dX7_draught_60 (by decide) ?_
            refine v_icmp_lt (tgt := 79) X dX7_draught_61 (by decide) (fun q => ?_) (fun q => ?_)
            · have hd := ite_t q hd
              refine v_iconst (v := 1) X dX7_draught_79 (by decide) ?_
              refine v_goto (tgt := 84) X dX7_draught_80 (by decide) ?_
              exact v_loc [1, 2, 3, 0] rfl (v_at (P := fun (u13 : Bool) h => V K 4 h 84 [(0, .ref t), (1, .int v3), (2, .int s4), (3, .int v12)] [.int (b2i u13), .ref t]) hd KJ)
            · have hd := ite_f q hd
              refine v_iload_n X dX7_draught_64 0 3 rfl rfl ?_
              refine v_aload_n X dX7_draught_65 1 0 rfl rfl ?_
              refine v_getR X hd fl_X7_15 dX7_draught_66 (fun v25 hd => ?_)
              refine v_getR X hd fl_X7_165 dX7_draught_69 (fun v26 hd => ?_)
              refine v_iload_n X dX7_draught_72 2 1 rfl rfl ?_
              refine v_iconst (v := 1) X dX7_draught_73 (by decide) ?_
              refine v_iadd X dX7_draught_74 ?_
              refine v_iald X hd dX7_draught_75 (fun v27 hd => ?_)
              refine v_icmp_eq (tgt := 83) X dX7_draught_76 (by decide) (fun q => ?_) (fun q => ?_)
              · have hd := ite_t q hd
                refine v_iconst (v := 0) X dX7_draught_83 (by decide) ?_
                exact v_loc [1, 2, 3, 0] rfl (v_at (P := fun (u13 : Bool) h => V K 4 h 84 [(0, .ref t), (1, .int v3), (2, .int s4), (3, .int v12)] [.int (b2i u13), .ref t]) hd KJ)
              · have hd := ite_f q hd
                refine v_iconst (v := 1) X dX7_draught_79 (by decide) ?_
                refine v_goto (tgt := 84) X dX7_draught_80 (by decide) ?_
                exact v_loc [1, 2, 3, 0] rfl (v_at (P := fun (u13 : Bool) h => V K 4 h 84 [(0, .ref t), (1, .int v3), (2, .int s4), (3, .int v12)] [.int (b2i u13), .ref t]) hd KJ)
    · have hd := cs_l hd
      have hd := lp_out hd ho6
      obtain ⟨rfl, hh⟩ := px_inl hd
      exact vx_leave X hex ho hh
def dkwX7_row_7 : List UInt8 := [96, 181, 0, 44, 42, 182, 0, 53, 177]
abbrev dktX7_row_7 : List UInt8 := dkwX7_row_7 ++ []
def dkwX7_row_6 : List UInt8 := [160, 0, 7, 3, 167, 0, 4, 5, 79, 132, 1, 1, 167, 255, 178, 42, 180, 0, 15, 89, 180, 0, 44, 4]
abbrev dktX7_row_6 : List UInt8 := dkwX7_row_6 ++ dktX7_row_7
def dkwX7_row_5 : List UInt8 := [160, 0, 7, 4, 167, 0, 27, 42, 180, 0, 3, 180, 0, 94, 42, 180, 0, 98, 27, 96, 51, 16, 102]
abbrev dktX7_row_5 : List UInt8 := dkwX7_row_5 ++ dktX7_row_6
def dkwX7_row_4 : List UInt8 := [180, 0, 44, 104, 27, 96, 42, 180, 0, 3, 180, 0, 94, 42, 180, 0, 98, 27, 96, 51, 16, 119]
abbrev dktX7_row_4 : List UInt8 := dkwX7_row_4 ++ dktX7_row_5
def dkwX7_row_3 : List UInt8 := [60, 27, 42, 180, 0, 93, 162, 0, 76, 42, 180, 0, 15, 180, 0, 85, 16, 10, 42, 180, 0, 15]
abbrev dktX7_row_3 : List UInt8 := dkwX7_row_3 ++ dktX7_row_4
def dkwX7_row_2 : List UInt8 := [160, 0, 7, 4, 167, 0, 4, 3, 5, 182, 0, 35, 42, 180, 0, 15, 42, 180, 0, 93, 181, 0, 75, 3]
abbrev dktX7_row_2 : List UInt8 := dkwX7_row_2 ++ dktX7_row_3
def dkwX7_row_1 : List UInt8 := [153, 0, 31, 42, 180, 0, 15, 180, 0, 44, 153, 0, 17, 42, 180, 0, 93, 42, 180, 0, 15, 180, 0, 75]
abbrev dktX7_row_1 : List UInt8 := dkwX7_row_1 ++ dktX7_row_2
def dkwX7_row_0 : List UInt8 := [42, 42, 180, 0, 23, 4, 160, 0, 7, 4, 167, 0, 4, 3, 4, 182, 0, 35, 42, 42, 182, 0, 89]
abbrev dktX7_row_0 : List UInt8 := dkwX7_row_0 ++ dktX7_row_1
theorem dksX7_row_0 : cX7_row.data.toList.drop 0 = dktX7_row_0 := by decide +kernel
theorem dksX7_row_1 : cX7_row.data.toList.drop 23 = dktX7_row_1 := dk_seg dksX7_row_0 23 rfl rfl
theorem dksX7_row_2 : cX7_row.data.toList.drop 47 = dktX7_row_2 := dk_seg dksX7_row_1 24 rfl rfl
theorem dksX7_row_3 : cX7_row.data.toList.drop 71 = dktX7_row_3 := dk_seg dksX7_row_2 24 rfl rfl
theorem dksX7_row_4 : cX7_row.data.toList.drop 93 = dktX7_row_4 := dk_seg dksX7_row_3 22 rfl rfl
theorem dksX7_row_5 : cX7_row.data.toList.drop 115 = dktX7_row_5 := dk_seg dksX7_row_4 22 rfl rfl
theorem dksX7_row_6 : cX7_row.data.toList.drop 138 = dktX7_row_6 := dk_seg dksX7_row_5 23 rfl rfl
theorem dksX7_row_7 : cX7_row.data.toList.drop 162 = dktX7_row_7 := dk_seg dksX7_row_6 24 rfl rfl
theorem dX7_row_0 : decode cX7_row 0 = .ok (.aload_n 0, 1) := dk_42 (dk_at dksX7_row_0 0 rfl rfl)
theorem dX7_row_1 : decode cX7_row 1 = .ok (.aload_n 0, 1) := dk_42 (dk_at dksX7_row_0 1 rfl rfl)
theorem dX7_row_2 : decode cX7_row 2 = .ok (.getfield 23, 3) := dk_180 0 23 (dk_at dksX7_row_0 2 rfl rfl)
theorem dX7_row_5 : decode cX7_row 5 = .ok (.iconst 1, 1) := dk_4 (dk_at dksX7_row_0 5 rfl rfl)
theorem dX7_row_6 : decode cX7_row 6 = .ok (.if_icmp .ne 7, 3) := dk_160 0 7 (dk_at dksX7_row_0 6 rfl rfl)
theorem dX7_row_9 : decode cX7_row 9 = .ok (.iconst 1, 1) := dk_4 (dk_at dksX7_row_0 9 rfl rfl)
theorem dX7_row_10 : decode cX7_row 10 = .ok (.goto 4, 3) := dk_167 0 4 (dk_at dksX7_row_0 10 rfl rfl)
theorem dX7_row_13 : decode cX7_row 13 = .ok (.iconst 0, 1) := dk_3 (dk_at dksX7_row_0 13 rfl rfl)
theorem dX7_row_14 : decode cX7_row 14 = .ok (.iconst 1, 1) := dk_4 (dk_at dksX7_row_0 14 rfl rfl)
theorem dX7_row_15 : decode cX7_row 15 = .ok (.invokevirtual 35, 3) := dk_182 0 35 (dk_at dksX7_row_0 15 rfl rfl)
theorem dX7_row_18 : decode cX7_row 18 = .ok (.aload_n 0, 1) := dk_42 (dk_at dksX7_row_0 18 rfl rfl)
theorem dX7_row_19 : decode cX7_row 19 = .ok (.aload_n 0, 1) := dk_42 (dk_at dksX7_row_0 19 rfl rfl)
theorem dX7_row_20 : decode cX7_row 20 = .ok (.invokevirtual 89, 3) := dk_182 0 89 (dk_at dksX7_row_0 20 rfl rfl)
theorem dX7_row_23 : decode cX7_row 23 = .ok (.ifCond .eq 31, 3) := dk_153 0 31 (dk_at dksX7_row_1 0 rfl rfl)
theorem dX7_row_26 : decode cX7_row 26 = .ok (.aload_n 0, 1) := dk_42 (dk_at dksX7_row_1 3 rfl rfl)
theorem dX7_row_27 : decode cX7_row 27 = .ok (.getfield 15, 3) := dk_180 0 15 (dk_at dksX7_row_1 4 rfl rfl)
theorem dX7_row_30 : decode cX7_row 30 = .ok (.getfield 44, 3) := dk_180 0 44 (dk_at dksX7_row_1 7 rfl rfl)
theorem dX7_row_33 : decode cX7_row 33 = .ok (.ifCond .eq 17, 3) := dk_153 0 17 (dk_at dksX7_row_1 10 rfl rfl)
theorem dX7_row_36 : decode cX7_row 36 = .ok (.aload_n 0, 1) := dk_42 (dk_at dksX7_row_1 13 rfl rfl)
theorem dX7_row_37 : decode cX7_row 37 = .ok (.getfield 93, 3) := dk_180 0 93 (dk_at dksX7_row_1 14 rfl rfl)
theorem dX7_row_40 : decode cX7_row 40 = .ok (.aload_n 0, 1) := dk_42 (dk_at dksX7_row_1 17 rfl rfl)
theorem dX7_row_41 : decode cX7_row 41 = .ok (.getfield 15, 3) := dk_180 0 15 (dk_at dksX7_row_1 18 rfl rfl)
theorem dX7_row_44 : decode cX7_row 44 = .ok (.getfield 75, 3) := dk_180 0 75 (dk_at dksX7_row_1 21 rfl rfl)
theorem dX7_row_47 : decode cX7_row 47 = .ok (.if_icmp .ne 7, 3) := dk_160 0 7 (dk_at dksX7_row_2 0 rfl rfl)
theorem dX7_row_50 : decode cX7_row 50 = .ok (.iconst 1, 1) := dk_4 (dk_at dksX7_row_2 3 rfl rfl)
theorem dX7_row_51 : decode cX7_row 51 = .ok (.goto 4, 3) := dk_167 0 4 (dk_at dksX7_row_2 4 rfl rfl)
theorem dX7_row_54 : decode cX7_row 54 = .ok (.iconst 0, 1) := dk_3 (dk_at dksX7_row_2 7 rfl rfl)
theorem dX7_row_55 : decode cX7_row 55 = .ok (.iconst 2, 1) := dk_5 (dk_at dksX7_row_2 8 rfl rfl)
theorem dX7_row_56 : decode cX7_row 56 = .ok (.invokevirtual 35, 3) := dk_182 0 35 (dk_at dksX7_row_2 9 rfl rfl)
theorem dX7_row_59 : decode cX7_row 59 = .ok (.aload_n 0, 1) := dk_42 (dk_at dksX7_row_2 12 rfl rfl)
theorem dX7_row_60 : decode cX7_row 60 = .ok (.getfield 15, 3) := dk_180 0 15 (dk_at dksX7_row_2 13 rfl rfl)
theorem dX7_row_63 : decode cX7_row 63 = .ok (.aload_n 0, 1) := dk_42 (dk_at dksX7_row_2 16 rfl rfl)
theorem dX7_row_64 : decode cX7_row 64 = .ok (.getfield 93, 3) := dk_180 0 93 (dk_at dksX7_row_2 17 rfl rfl)
theorem dX7_row_67 : decode cX7_row 67 = .ok (.putfield 75, 3) := dk_181 0 75 (dk_at dksX7_row_2 20 rfl rfl)
theorem dX7_row_70 : decode cX7_row 70 = .ok (.iconst 0, 1) := dk_3 (dk_at dksX7_row_2 23 rfl rfl)
theorem dX7_row_71 : decode cX7_row 71 = .ok (.istore_n 1, 1) := dk_60 (dk_at dksX7_row_3 0 rfl rfl)
theorem dX7_row_72 : decode cX7_row 72 = .ok (.iload_n 1, 1) := dk_27 (dk_at dksX7_row_3 1 rfl rfl)
theorem dX7_row_73 : decode cX7_row 73 = .ok (.aload_n 0, 1) := dk_42 (dk_at dksX7_row_3 2 rfl rfl)
theorem dX7_row_74 : decode cX7_row 74 = .ok (.getfield 93, 3) := dk_180 0 93 (dk_at dksX7_row_3 3 rfl rfl)
theorem dX7_row_77 : decode cX7_row 77 = .ok (.if_icmp .ge 76, 3) := dk_162 0 76 (dk_at dksX7_row_3 6 rfl rfl)
theorem dX7_row_80 : decode cX7_row 80 = .ok (.aload_n 0, 1) := dk_42 (dk_at dksX7_row_3 9 rfl rfl)
theorem dX7_row_81 : decode cX7_row 81 = .ok (.getfield 15, 3) := dk_180 0 15 (dk_at dksX7_row_3 10 rfl rfl)
theorem dX7_row_84 : decode cX7_row 84 = .ok (.getfield 85, 3) := dk_180 0 85 (dk_at dksX7_row_3 13 rfl rfl)
theorem dX7_row_87 : decode cX7_row 87 = .ok (.bipush 10, 2) := dk_16 10 (dk_at dksX7_row_3 16 rfl rfl)
theorem dX7_row_89 : decode cX7_row 89 = .ok (.aload_n 0, 1) := dk_42 (dk_at dksX7_row_3 18 rfl rfl)
theorem dX7_row_90 : decode cX7_row 90 = .ok (.getfield 15, 3) := dk_180 0 15 (dk_at dksX7_row_3 19 rfl rfl)
theorem dX7_row_93 : decode cX7_row 93 = .ok (.getfield 44, 3) := dk_180 0 44 (dk_at dksX7_row_4 0 rfl rfl)
theorem dX7_row_96 : decode cX7_row 96 = .ok (.imul, 1) := dk_104 (dk_at dksX7_row_4 3 rfl rfl)
theorem dX7_row_97 : decode cX7_row 97 = .ok (.iload_n 1, 1) := dk_27 (dk_at dksX7_row_4 4 rfl rfl)
theorem dX7_row_98 : decode cX7_row 98 = .ok (.iadd, 1) := dk_96 (dk_at dksX7_row_4 5 rfl rfl)
theorem dX7_row_99 : decode cX7_row 99 = .ok (.aload_n 0, 1) := dk_42 (dk_at dksX7_row_4 6 rfl rfl)
theorem dX7_row_100 : decode cX7_row 100 = .ok (.getfield 3, 3) := dk_180 0 3 (dk_at dksX7_row_4 7 rfl rfl)
theorem dX7_row_103 : decode cX7_row 103 = .ok (.getfield 94, 3) := dk_180 0 94 (dk_at dksX7_row_4 10 rfl rfl)
theorem dX7_row_106 : decode cX7_row 106 = .ok (.aload_n 0, 1) := dk_42 (dk_at dksX7_row_4 13 rfl rfl)
theorem dX7_row_107 : decode cX7_row 107 = .ok (.getfield 98, 3) := dk_180 0 98 (dk_at dksX7_row_4 14 rfl rfl)
theorem dX7_row_110 : decode cX7_row 110 = .ok (.iload_n 1, 1) := dk_27 (dk_at dksX7_row_4 17 rfl rfl)
theorem dX7_row_111 : decode cX7_row 111 = .ok (.iadd, 1) := dk_96 (dk_at dksX7_row_4 18 rfl rfl)
theorem dX7_row_112 : decode cX7_row 112 = .ok (.baload, 1) := dk_51 (dk_at dksX7_row_4 19 rfl rfl)
theorem dX7_row_113 : decode cX7_row 113 = .ok (.bipush 119, 2) := dk_16 119 (dk_at dksX7_row_4 20 rfl rfl)
theorem dX7_row_115 : decode cX7_row 115 = .ok (.if_icmp .ne 7, 3) := dk_160 0 7 (dk_at dksX7_row_5 0 rfl rfl)
theorem dX7_row_118 : decode cX7_row 118 = .ok (.iconst 1, 1) := dk_4 (dk_at dksX7_row_5 3 rfl rfl)
theorem dX7_row_119 : decode cX7_row 119 = .ok (.goto 27, 3) := dk_167 0 27 (dk_at dksX7_row_5 4 rfl rfl)
theorem dX7_row_122 : decode cX7_row 122 = .ok (.aload_n 0, 1) := dk_42 (dk_at dksX7_row_5 7 rfl rfl)
theorem dX7_row_123 : decode cX7_row 123 = .ok (.getfield 3, 3) := dk_180 0 3 (dk_at dksX7_row_5 8 rfl rfl)
theorem dX7_row_126 : decode cX7_row 126 = .ok (.getfield 94, 3) := dk_180 0 94 (dk_at dksX7_row_5 11 rfl rfl)
theorem dX7_row_129 : decode cX7_row 129 = .ok (.aload_n 0, 1) := dk_42 (dk_at dksX7_row_5 14 rfl rfl)
theorem dX7_row_130 : decode cX7_row 130 = .ok (.getfield 98, 3) := dk_180 0 98 (dk_at dksX7_row_5 15 rfl rfl)
theorem dX7_row_133 : decode cX7_row 133 = .ok (.iload_n 1, 1) := dk_27 (dk_at dksX7_row_5 18 rfl rfl)
theorem dX7_row_134 : decode cX7_row 134 = .ok (.iadd, 1) := dk_96 (dk_at dksX7_row_5 19 rfl rfl)
theorem dX7_row_135 : decode cX7_row 135 = .ok (.baload, 1) := dk_51 (dk_at dksX7_row_5 20 rfl rfl)
theorem dX7_row_136 : decode cX7_row 136 = .ok (.bipush 102, 2) := dk_16 102 (dk_at dksX7_row_5 21 rfl rfl)
theorem dX7_row_138 : decode cX7_row 138 = .ok (.if_icmp .ne 7, 3) := dk_160 0 7 (dk_at dksX7_row_6 0 rfl rfl)
theorem dX7_row_141 : decode cX7_row 141 = .ok (.iconst 0, 1) := dk_3 (dk_at dksX7_row_6 3 rfl rfl)
theorem dX7_row_142 : decode cX7_row 142 = .ok (.goto 4, 3) := dk_167 0 4 (dk_at dksX7_row_6 4 rfl rfl)
theorem dX7_row_145 : decode cX7_row 145 = .ok (.iconst 2, 1) := dk_5 (dk_at dksX7_row_6 7 rfl rfl)
theorem dX7_row_146 : decode cX7_row 146 = .ok (.iastore, 1) := dk_79 (dk_at dksX7_row_6 8 rfl rfl)
theorem dX7_row_147 : decode cX7_row 147 = .ok (.iinc 1 1, 3) := dk_132 1 1 (dk_at dksX7_row_6 9 rfl rfl)
theorem dX7_row_150 : decode cX7_row 150 = .ok (.goto (-78), 3) := dk_167 255 178 (dk_at dksX7_row_6 12 rfl rfl)
theorem dX7_row_153 : decode cX7_row 153 = .ok (.aload_n 0, 1) := dk_42 (dk_at dksX7_row_6 15 rfl rfl)
theorem dX7_row_154 : decode cX7_row 154 = .ok (.getfield 15, 3) := dk_180 0 15 (dk_at dksX7_row_6 16 rfl rfl)
theorem dX7_row_157 : decode cX7_row 157 = .ok (.dup, 1) := dk_89 (dk_at dksX7_row_6 19 rfl rfl)
theorem dX7_row_158 : decode cX7_row 158 = .ok (.getfield 44, 3) := dk_180 0 44 (dk_at dksX7_row_6 20 rfl rfl)
theorem dX7_row_161 : decode cX7_row 161 = .ok (.iconst 1, 1) := dk_4 (dk_at dksX7_row_6 23 rfl rfl)
theorem dX7_row_162 : decode cX7_row 162 = .ok (.iadd, 1) := dk_96 (dk_at dksX7_row_7 0 rfl rfl)
theorem dX7_row_163 : decode cX7_row 163 = .ok (.putfield 44, 3) := dk_181 0 44 (dk_at dksX7_row_7 1 rfl rfl)
theorem dX7_row_166 : decode cX7_row 166 = .ok (.aload_n 0, 1) := dk_42 (dk_at dksX7_row_7 4 rfl rfl)
theorem dX7_row_167 : decode cX7_row 167 = .ok (.invokevirtual 53, 3) := dk_182 0 53 (dk_at dksX7_row_7 5 rfl rfl)
theorem dX7_row_170 : decode cX7_row 170 = .ok (.return_, 1) := dk_177 (dk_at dksX7_row_7 8 rfl rfl)
theorem fl_X7_23 : gFl "BitingDoors$HouseReader" 23 [5] 3 := by
  intro args s hts hN ci hc
  simp only [List.mem_cons, List.not_mem_nil, or_false] at hc
  subst hc
  exact ⟨RX7, TX7, 10, "BitingDoors$HouseReader", gCl_X7, in_X7, by decide, Or.inl (hts _ q392), u_same (hts _ q393)⟩
theorem fl_X7_3 : gFl "BitingDoors$HouseReader" 3 [5] 9 := by
  intro args s hts hN ci hc
  simp only [List.mem_cons, List.not_mem_nil, or_false] at hc
  subst hc
  exact ⟨RX7, TX7, 10, "BitingDoors$HouseReader", gCl_X7, in_X7, by decide, Or.inl (hts _ q386), fun _ h => h⟩
theorem fl_X7_44 : gFl "BitingDoors$HouseReader" 44 [3] 5 := by
  intro args s hts hN ci hc
  simp only [List.mem_cons, List.not_mem_nil, or_false] at hc
  subst hc
  exact ⟨RX4, TX4, 9, "BitingDoors$House", gCl_X4, in_X4, by decide, Or.inr ⟨"BitingDoors", va_Nw.use rfl (hN.1 ("BitingDoors$HouseReader", 44, "BitingDoors$House", "rows", "I", "BitingDoors") (List.mem_of_getElem? (i := 47) rfl))⟩, fun _ h => h⟩
theorem fl_X7_75 : gFl "BitingDoors$HouseReader" 75 [3] 4 := by
  intro args s hts hN ci hc
  simp only [List.mem_cons, List.not_mem_nil, or_false] at hc
  subst hc
  exact ⟨RX4, TX4, 9, "BitingDoors$House", gCl_X4, in_X4, by decide, Or.inr ⟨"BitingDoors", va_Nw.use rfl (hN.1 ("BitingDoors$HouseReader", 75, "BitingDoors$House", "columns", "I", "BitingDoors") (List.mem_of_getElem? (i := 46) rfl))⟩, fun _ h => h⟩
theorem fl_X7_93 : gFl "BitingDoors$HouseReader" 93 [5] 5 := by
  intro args s hts hN ci hc
  simp only [List.mem_cons, List.not_mem_nil, or_false] at hc
  subst hc
  exact ⟨RX7, TX7, 10, "BitingDoors$HouseReader", gCl_X7, in_X7, by decide, Or.inl (hts _ q404), u_same (hts _ q405)⟩
theorem fl_X7_94 : gFl "BitingDoors$HouseReader" 94 [0] 0 := by
  intro args s hts hN ci hc
  simp only [List.mem_cons, List.not_mem_nil, or_false] at hc
  subst hc
  exact ⟨RX1, TX1, 46, "BitingDoors", gCl_X1, in_X1, by decide, Or.inr ⟨"BitingDoors", va_Nw.use rfl (hN.1 ("BitingDoors$HouseReader", 94, "BitingDoors", "tape", "[B", "BitingDoors") (List.mem_of_getElem? (i := 51) rfl))⟩, fun _ h => h⟩
theorem fl_X7_98 : gFl "BitingDoors$HouseReader" 98 [5] 2 := by
  intro args s hts hN ci hc
  simp only [List.mem_cons, List.not_mem_nil, or_false] at hc
  subst hc
  exact ⟨RX7, TX7, 10, "BitingDoors$HouseReader", gCl_X7, in_X7, by decide, Or.inl (hts _ q389), u_same (hts _ q390)⟩
theorem fp_X7_44 {nm : String} : gFp "BitingDoors$HouseReader" nm 44 [3] 5 .int := by
  intro args s hts hN ci hc
  simp only [List.mem_cons, List.not_mem_nil, or_false] at hc
  subst hc
  exact ⟨RX4, TX4, 9, "BitingDoors$House", gCl_X4, in_X4, by decide, Or.inl ⟨rfl, Or.inr ⟨"BitingDoors", va_Nw.use rfl (hN.1 ("BitingDoors$HouseReader", 44, "BitingDoors$House", "rows", "I", "BitingDoors") (List.mem_of_getElem? (i := 47) rfl))⟩⟩, fun _ h => h, rfl, fun D tys hK => gap_X4 hts hK⟩
theorem fp_X7_75 {nm : String} : gFp "BitingDoors$HouseReader" nm 75 [3] 4 .int := by
  intro args s hts hN ci hc
  simp only [List.mem_cons, List.not_mem_nil, or_false] at hc
  subst hc
  exact ⟨RX4, TX4, 9, "BitingDoors$House", gCl_X4, in_X4, by decide, Or.inl ⟨rfl, Or.inr ⟨"BitingDoors", va_Nw.use rfl (hN.1 ("BitingDoors$HouseReader", 75, "BitingDoors$House", "columns", "I", "BitingDoors") (List.mem_of_getElem? (i := 46) rfl))⟩⟩, fun _ h => h, rfl, fun D tys hK => gap_X4 hts hK⟩
theorem hu_X7_89 : ∀ ci ∈ [5], ∃ rr : vw_C, gCl[ci]? = some rr ∧ GoodIn lw_all (va_wsU "BitingDoors$HouseReader" 89 rr.1 "BitingDoors$Reader" ⟨"BitingDoors$HouseReader", "areCells", "()Z"⟩ yX6_areCells (ws_ yX6_areCells cX6_areCells 2 (some .boolean))) := by
  intro ci hc
  simp only [List.mem_cons, List.not_mem_nil, or_false] at hc
  subst hc
  refine ⟨_, gCl_X7, lw_app (fun w hw => ?_) (lw_meth q789)⟩
  simp only [List.mem_cons, List.not_mem_nil, or_false] at hw
  rcases hw with e | e | e | e | e
  · rw [e]; exact q784
  · rw [e]; exact q785
  · rw [e]; exact q787
  · rw [e]; exact q788
  · rw [e]; exact q116
theorem dn_X7_row : yX7_row.cls ≠ "java/lang/invoke/MethodHandle" ∧ yX7_row.cls ≠ "java/lang/invoke/VarHandle" ∧ (parseMethodDescriptor yX7_row.desc).map (fun d => d.parameters.length) = some 0 := by decide +kernel
noncomputable def M_X7_row (t : Nat) : Mo (Nat ⊕ Unit) := Mo.bind (chk [5] t) (fun _ => Mo.bind (gI [5] t 3) (fun v1 => Mo.bind ((if v1 = 1 then Mo.pure true else Mo.pure false : Mo (Bool))) (fun u2 => Mo.bind (Mo.bind (chk [5] t) (fun _ => M_X6_must t u2 1)) (fun w => Mo.cs w (fun b => Mo.pure (Sum.inl b)) (fun v3 => Mo.bind (Mo.bind (chk [5] t) (fun _ => M_X6_areCells t)) (fun v4 => Mo.bind ((cond v4 (Mo.bind (gR [5] t 8) (fun v31 => Mo.bind (gI [3] v31 5) (fun v32 => if v32 = 0 then Mo.pure true else Mo.bind (gI [5] t 5) (fun v33 => Mo.bind (gR [5] t 8) (fun v34 => Mo.bind (gI [3] v34 4) (fun v35 => if v33 = v35 then Mo.pure true else Mo.pure false)))))) (Mo.pure false) : Mo (Bool))) (fun u5 => Mo.bind (Mo.bind (chk [5] t) (fun _ => M_X6_must t u5 2)) (fun w => Mo.cs w (fun b => Mo.pure (Sum.inl b)) (fun v6 => Mo.bind (gR [5] t 8) (fun v7 => Mo.bind (gI [5] t 5) (fun v8 => Mo.bind (pF [3] v7 4 (.int v8)) (fun _ => Mo.bind (Mo.loop (S := Int32) (E := Unit) (fun s9 => Mo.bind (gI [5] t 5) (fun v13 => if v13 ≤ s9 then Mo.pure (Sum.inr ()) else Mo.bind (gR [5] t 8) (fun v14 => Mo.bind (gR [3] v14 0) (fun v15 => Mo.bind (gR [5] t 8) (fun v16 => Mo.bind (gI [3] v16 5) (fun v17 => Mo.bind (gR [5] t 9) (fun v18 => Mo.bind (gR [0] v18 0) (fun v19 => Mo.bind (gI [5] t 2) (fun v20 => Mo.bind (aldI 2 v19 (v20 + s9)) (fun v21 => Mo.bind ((if v21 = 119 then Mo.pure 1 else Mo.bind (gR [5] t 9) (fun v24 => Mo.bind (gR [0] v24 0) (fun v25 => Mo.bind (gI [5] t 2) (fun v26 => Mo.bind (aldI 2 v25 (v26 + s9)) (fun v27 => if v27 = 102 then Mo.pure 0 else Mo.pure 2)))) : Mo (Int32))) (fun u22 => Mo.bind (astI 0 v15 ((10 * v17) + s9) u22) (fun _ => Mo.lv (s9 + 1) (fun v23 => Mo.pure (Sum.inl v23)))))))))))))) 0) (fun e12 => Mo.bind (gR [5] t 8) (fun v28 => Mo.bind (gI [3] v28 5) (fun v29 => Mo.bind (pF [3] v28 5 (.int (v29 + 1))) (fun _ => Mo.bind (Mo.bind (chk [5] t) (fun _ => M_X6_next t)) (fun v30 => Mo.pure (Sum.inr ()))))))))))))))))))
set_option maxHeartbeats 4000000 in
theorem ct_X7_row (G : gG) (t : Nat) : gCx G yX7_row cX7_row 2 none 4 86 [.ref t] (M_X7_row t) (fun _ : Unit => none) := by
  refine gCx.of (by decide) (Nat.le_of_ble_eq_true rfl) (fun K r hG X hex hd ho => ?_)
  subst hG
  have X : gX K cX7_row 2 "BitingDoors$HouseReader" "row" none 4 86 := X
  have hle : gLe (kh1 K) (kh1 K) := gLe.rf
  show V K 2 (kh0 K) 0 [(0, .ref t)] []
  generalize kh0 K = h at hd ⊢
  unfold M_X7_row at hd
  obtain ⟨-, hd⟩ := chk_some hd
  refine v_aload_n X dX7_row_0 0 0 rfl rfl ?_
  refine v_aload_n X dX7_row_1 0 0 rfl rfl ?_
  refine v_getI X hd fl_X7_23 dX7_row_2 (fun v1 hd => ?_)
  refine v_iconst (v := 1) X dX7_row_5 (by decide) ?_
  obtain ⟨u2, h1, hd, hd2⟩ := Mo.bind_some hd
  have KJ : V K 2 h1 14 [(0, .ref t)] [.int (b2i u2), .ref t] := by
    clear hd
    have hd := hd2
    refine v_iconst (v := 1) X dX7_row_14 (by decide) ?_
    refine v_callUX X hd hle (ct_X6_must _ t u2 1) hu_X7_35 rfl dn_X6_must rfl q116 q764 ⟨by decide, by decide⟩ rfl (Nat.le_of_ble_eq_true rfl) dX7_row_15 (fun v3 h hd => ?_) (fun b h hd => ?_)
    · show V K 2 h 18 [(0, .ref t)] []
      have hd := cs_r hd
      refine v_aload_n X dX7_row_18 0 0 rfl rfl ?_
      refine v_aload_n X dX7_row_19 0 0 rfl rfl ?_
      refine v_callU X hd hle (ct_X6_areCells _ t) hu_X7_89 rfl dn_X6_areCells rfl ⟨by decide, by decide⟩ rfl (Nat.le_of_ble_eq_true rfl) dX7_row_20 (fun v4 h hd => ?_)
      show V K 2 h 23 [(0, .ref t)] [.int (b2i v4), .ref t]
      obtain ⟨u5, h1, hd, hd2⟩ := Mo.bind_some hd
      have KJ : V K 2 h1 55 [(0, .ref t)] [.int (b2i u5), .ref t] := by
        clear hd
        have hd := hd2
        refine v_iconst (v := 2) X dX7_row_55 (by decide) ?_
        refine v_callUX X hd hle (ct_X6_must _ t u5 2) hu_X7_35 rfl dn_X6_must rfl q116 q764 ⟨by decide, by decide⟩ rfl (Nat.le_of_ble_eq_true rfl) dX7_row_56 (fun v6 h hd => ?_) (fun b h hd => ?_)
        · show V K 2 h 59 [(0, .ref t)] []
          have hd := cs_r hd
          refine v_aload_n X dX7_row_59 0 0 rfl rfl ?_
          refine v_getR X hd fl_X7_15 dX7_row_60 (fun v7 hd => ?_)
          refine v_aload_n X dX7_row_63 0 0 rfl rfl ?_
          refine v_getI X hd fl_X7_93 dX7_row_64 (fun v8 hd => ?_)
          refine v_put (v := .int v8) X hd fp_X7_75 rfl rfl dX7_row_67 (fun h hd => ?_)
          refine v_iconst (v := 0) X dX7_row_70 (by decide) ?_
          refine v_istore_n (lv2 := [(1, .int 0), (0, .ref t)]) X dX7_row_71 1 rfl (by decide) rfl ?_
          obtain ⟨e12, h1, hd, hd2⟩ := Mo.bind_some hd
          have KX : V K 2 h1 153 [(0, .ref t)] [] := by
            clear hd
            have hd := hd2
            refine v_aload_n X dX7_row_153 0 0 rfl rfl ?_
            refine v_getR X hd fl_X7_15 dX7_row_154 (fun v28 hd => ?_)
            refine v_dup X dX7_row_157 rfl ?_
            refine v_getI X hd fl_X7_44 dX7_row_158 (fun v29 hd => ?_)
            refine v_iconst (v := 1) X dX7_row_161 (by decide) ?_
            refine v_iadd X dX7_row_162 ?_
            refine v_put (v := .int (v29 + 1)) X hd fp_X7_44 rfl rfl dX7_row_163 (fun h hd => ?_)
            refine v_aload_n X dX7_row_166 0 0 rfl rfl ?_
            refine v_callU X hd hle (ct_X6_next _ t) hu_X7_53 rfl dn_X6_next rfl ⟨by decide, by decide⟩ rfl (Nat.le_of_ble_eq_true rfl) dX7_row_167 (fun v30 h hd => ?_)
            show V K 2 h 170 [(0, .ref t)] []
            obtain ⟨rfl, hx⟩ := px_inr hd
            exact v_vret X hx ho dX7_row_170
          have hle := (Mo.le hd2).tr hle
          clear hd2
          refine v_loc [1, 0] rfl ?_
          refine loop_ind hd (fun (s9 : Int32) h => V K 2 h 72 [(0, .ref t), (1, .int s9)] []) (fun s9 h x h2 hd hle0 ih10 ho11 => ?_)
          have hle := hle0.tr hle
          refine v_iload_n X dX7_row_72 1 1 rfl rfl ?_
          refine v_aload_n X dX7_row_73 0 0 rfl rfl ?_
          refine v_getI X hd fl_X7_93 dX7_row_74 (fun v13 hd => ?_)
          refine v_icmp_ge (tgt := 153) X dX7_row_77 (by decide) (fun q => ?_) (fun q => ?_)
          · have hd := ite_t q hd
            exact v_loc [0] rfl (v_at (P := fun (e12 : Unit) h => V K 2 h 153 [(0, .ref t)] []) (lp_out hd ho11) KX)
          · have hd := ite_f q hd
            refine v_aload_n X dX7_row_80 0 0 rfl rfl ?_
            refine v_getR X hd fl_X7_15 dX7_row_81 (fun v14 hd => ?_)
            refine v_getR X hd fl_X7_85 dX7_row_84 (fun v15 hd => ?_)
            refine v_bipush (v := 10) X dX7_row_87 (by decide) ?_
            refine v_aload_n X dX7_row_89 0 0 rfl rfl ?_
            refine v_getR X hd fl_X7_15 dX7_row_90 (fun v16 hd => ?_)
            refine v_getI X hd fl_X7_44 dX7_row_93 (fun v17 hd => ?_)
            refine v_imul X dX7_row_96 ?_
            refine v_iload_n X dX7_row_97 1 1 rfl rfl ?_
            refine v_iadd X dX7_row_98 ?_
            refine v_aload_n X dX7_row_99 0 0 rfl rfl ?_
            refine v_getR X hd fl_X7_3 dX7_row_100 (fun v18 hd => ?_)
            refine v_getR X hd fl_X7_94 dX7_row_103 (fun v19 hd => ?_)
            refine v_aload_n X dX7_row_106 0 0 rfl rfl ?_
            refine v_getI X hd fl_X7_98 dX7_row_107 (fun v20 hd => ?_)
            refine v_iload_n X dX7_row_110 1 1 rfl rfl ?_
            refine v_iadd X dX7_row_111 ?_
            refine v_bald X hd dX7_row_112 (fun v21 hd => ?_)
            refine v_bipush (v := 119) X dX7_row_113 (by decide) ?_
            obtain ⟨u22, h1, hd, hd2⟩ := Mo.bind_some hd
            have KJ : V K 2 h1 146 [(0, .ref t), (1, .int s9)] [.int u22, .int ((10 * v17) + s9), .ref v15] := by
              clear hd
              have hd := hd2
              refine v_iast X hd dX7_row_146 (fun h hd => ?_)
              refine v_iincL (lv2 := fun v23 => [(1, .int v23), (0, .ref t)]) X hd dX7_row_147 1 rfl (by decide : Int32.ofInt 1 = 1) (by decide) (fun v23 => rfl) (fun v23 hd => ?_)
              refine v_goto (tgt := 72) X dX7_row_150 (by decide) ?_
              exact v_loc [1, 0] rfl (lp_in (P := fun (s9 : Int32) h => V K 2 h 72 [(0, .ref t), (1, .int s9)] []) hd ih10)
            have hle := (Mo.le hd2).tr hle
            clear hd2
            refine v_icmp_ne (tgt := 122) X dX7_row_115 (by decide) (fun q => ?_) (fun q => ?_)
            · have hd := ite_f q hd
              refine v_aload_n X dX7_row_122 0 0 rfl rfl ?_
              refine v_getR X hd fl_X7_3 dX7_row_123 (fun v24 hd => ?_)
              refine v_getR X hd fl_X7_94 dX7_row_126 (fun v25 hd => ?_)
              refine v_aload_n X dX7_row_129 0 0 rfl rfl ?_
              refine v_getI X hd fl_X7_98 dX7_row_130 (fun v26 hd => ?_)
              refine v_iload_n X dX7_row_133 1 1 rfl rfl ?_
              refine v_iadd X dX7_row_134 ?_
              refine v_bald X hd dX7_row_135 (fun v27 hd => ?_)
              refine v_bipush (v := 102) X dX7_row_136 (by decide) ?_
              refine v_icmp_ne (tgt := 145) X dX7_row_138 (by decide) (fun q => ?_) (fun q => ?_)
              · have hd := ite_f q hd
                refine v_iconst (v := 2) X dX7_row_145 (by decide) ?_
                exact v_loc [0, 1] rfl (v_at (P := fun (u22 : Int32) h => V K 2 h 146 [(0, .ref t), (1, .int s9)] [.int u22, .int ((10 * v17) + s9), .ref v15]) hd KJ)
              · have hd := ite_t q hd
                refine v_iconst (v := 0) X dX7_row_141 (by decide) ?_
                refine v_goto (tgt := 146) X dX7_row_142 (by decide) ?_
                exact v_loc [0, 1] rfl (v_at (P := fun (u22 : Int32) h => V K 2 h 146 [(0, .ref t), (1, .int s9)] [.int u22, .int ((10 * v17) + s9), .ref v15]) hd KJ)
            · have hd := ite_t q hd
              refine v_iconst (v := 1) X dX7_row_118 (by decide) ?_
              refine v_goto (tgt := 146) X dX7_row_119 (by decide) ?_
              exact v_loc [0, 1] rfl (v_at (P := fun (u22 : Int32) h => V K 2 h 146 [(0, .ref t), (1, .int s9)] [.int u22, .int ((10 * v17) + s9), .ref v15]) hd KJ)
        · have hd := cs_l hd
          obtain ⟨rfl, hh⟩ := px_inl hd
          exact vx_leave X hex ho hh
      have hle := (Mo.le hd2).tr hle
      clear hd2
      refine v_ifZ_eq (tgt := 54) X dX7_row_23 (by decide) (fun q => ?_) (fun q => ?_)
      · have hd := cnd_f q hd
        refine v_iconst (v := 0) X dX7_row_54 (by decide) ?_
        exact v_loc [0] rfl (v_at (P := fun (u5 : Bool) h => V K 2 h 55 [(0, .ref t)] [.int (b2i u5), .ref t]) hd KJ)
      · have hd := cnd_t q hd
        refine v_aload_n X dX7_row_26 0 0 rfl rfl ?_
        refine v_getR X hd fl_X7_15 dX7_row_27 (fun v31 hd => ?_)
        refine v_getI X hd fl_X7_44 dX7_row_30 (fun v32 hd => ?_)
        refine v_if_eq (tgt := 50) X dX7_row_33 (by decide) (fun q => ?_) (fun q => ?_)
        · have hd := ite_t q hd
          refine v_iconst (v := 1) X dX7_row_50 (by decide) ?_
          refine v_goto (tgt := 55) X dX7_row_51 (by decide) ?_
          exact v_loc [0] rfl (v_at (P := fun (u5 : Bool) h => V K 2 h 55 [(0, .ref t)] [.int (b2i u5), .ref t]) hd KJ)
        · have hd := ite_f q hd
          refine v_aload_n X dX7_row_36 0 0 rfl rfl ?_
          refine v_getI X hd fl_X7_93 dX7_row_37 (fun v33 hd => ?_)
          refine v_aload_n X dX7_row_40 0 0 rfl rfl ?_
          refine v_getR X hd fl_X7_15 dX7_row_41 (fun v34 hd => ?_)
          refine v_getI X hd fl_X7_75 dX7_row_44 (fun v35 hd => ?_)
          refine v_icmp_ne (tgt := 54) X dX7_row_47 (by decide) (fun q => ?_) (fun q => ?_)
          · have hd := ite_f q hd
            refine v_iconst (v := 0) X dX7_row_54 (by decide) ?_
            exact v_loc [0] rfl (v_at (P := fun (u5 : Bool) h => V K 2 h 55 [(0, .ref t)] [.int (b2i u5), .ref t]) hd KJ)
          · have hd := ite_t q hd
            refine v_iconst (v := 1) X dX7_row_50 (by decide) ?_
            refine v_goto (tgt := 55) X dX7_row_51 (by decide) ?_
            exact v_loc [0] rfl (v_at (P := fun (u5 : Bool) h => V K 2 h 55 [(0, .ref t)] [.int (b2i u5), .ref t]) hd KJ)
    · have hd := cs_l hd
      obtain ⟨rfl, hh⟩ := px_inl hd
      exact vx_leave X hex ho hh
  have hle := (Mo.le hd2).tr hle
  clear hd2
  refine v_icmp_ne (tgt := 13) X dX7_row_6 (by decide) (fun q => ?_) (fun q => ?_)
  · have hd := ite_f q hd
    refine v_iconst (v := 0) X dX7_row_13 (by decide) ?_
    exact v_loc [0] rfl (v_at (P := fun (u2 : Bool) h => V K 2 h 14 [(0, .ref t)] [.int (b2i u2), .ref t]) hd KJ)
  · have hd := ite_t q hd
    refine v_iconst (v := 1) X dX7_row_9 (by decide) ?_
    refine v_goto (tgt := 14) X dX7_row_10 (by decide) ?_
    exact v_loc [0] rfl (v_at (P := fun (u2 : Bool) h => V K 2 h 14 [(0, .ref t)] [.int (b2i u2), .ref t]) hd KJ)
def dkwX7_door_19 : List UInt8 := [180, 0, 15, 180, 0, 47, 25, 7, 83, 42, 180, 0, 15, 89, 180, 0, 47, 4, 96, 181, 0, 47, 177]
abbrev dktX7_door_19 : List UInt8 := dkwX7_door_19 ++ []
def dkwX7_door_18 : List UInt8 := [180, 0, 15, 180, 0, 47, 96, 79, 132, 8, 1, 167, 255, 200, 42, 180, 0, 15, 180, 0, 158, 42]
abbrev dktX7_door_18 : List UInt8 := dkwX7_door_18 ++ dktX7_door_19
def dkwX7_door_17 : List UInt8 := [21, 4, 21, 8, 96, 104, 29, 96, 167, 0, 13, 16, 10, 21, 4, 104, 29, 96, 21, 8, 96, 16, 10, 42]
abbrev dktX7_door_17 : List UInt8 := dkwX7_door_17 ++ dktX7_door_18
def dkwX7_door_16 : List UInt8 := [54, 8, 21, 8, 21, 6, 162, 0, 55, 42, 180, 0, 15, 180, 0, 85, 21, 5, 153, 0, 16, 16, 10]
abbrev dktX7_door_16 : List UInt8 := dkwX7_door_16 ++ dktX7_door_17
def dkwX7_door_15 : List UInt8 := [181, 0, 151, 42, 18, 153, 182, 0, 114, 153, 0, 13, 25, 7, 4, 181, 0, 155, 42, 182, 0, 53, 3]
abbrev dktX7_door_15 : List UInt8 := dkwX7_door_15 ++ dktX7_door_16
def dkwX7_door_14 : List UInt8 := [42, 18, 149, 182, 0, 114, 153, 0, 19, 42, 182, 0, 53, 25, 7, 42, 4, 16, 99, 182, 0, 78]
abbrev dktX7_door_14 : List UInt8 := dkwX7_door_14 ++ dktX7_door_15
def dkwX7_door_13 : List UInt8 := [25, 7, 89, 180, 0, 140, 42, 180, 0, 82, 184, 0, 136, 128, 181, 0, 140, 42, 182, 0, 53, 167, 255, 161]
abbrev dktX7_door_13 : List UInt8 := dkwX7_door_13 ++ dktX7_door_14
def dkwX7_door_12 : List UInt8 := [25, 7, 180, 0, 140, 42, 180, 0, 82, 184, 0, 145, 154, 0, 7, 4, 167, 0, 4, 3, 6, 182, 0, 35]
abbrev dktX7_door_12 : List UInt8 := dkwX7_door_12 ++ dktX7_door_13
def dkwX7_door_11 : List UInt8 := [4, 182, 0, 35, 42, 42, 180, 0, 82, 7, 162, 0, 7, 4, 167, 0, 4, 3, 5, 182, 0, 35, 42]
abbrev dktX7_door_11 : List UInt8 := dkwX7_door_11 ++ dktX7_door_12
def dkwX7_door_10 : List UInt8 := [182, 0, 114, 153, 0, 92, 42, 182, 0, 53, 42, 42, 180, 0, 23, 5, 160, 0, 7, 4, 167, 0, 4, 3]
abbrev dktX7_door_10 : List UInt8 := dkwX7_door_10 ++ dktX7_door_11
def dkwX7_door_9 : List UInt8 := [182, 0, 78, 181, 0, 133, 25, 7, 25, 7, 180, 0, 133, 184, 0, 136, 181, 0, 140, 42, 18, 143]
abbrev dktX7_door_9 : List UInt8 := dkwX7_door_9 ++ dktX7_door_10
def dkwX7_door_8 : List UInt8 := [187, 0, 128, 89, 31, 29, 21, 4, 21, 5, 21, 6, 183, 0, 130, 58, 7, 25, 7, 42, 3, 6]
abbrev dktX7_door_8 : List UInt8 := dkwX7_door_8 ++ dktX7_door_9
def dkwX7_door_7 : List UInt8 := [182, 0, 35, 42, 42, 29, 21, 4, 21, 5, 21, 6, 4, 182, 0, 124, 6, 182, 0, 35, 42, 182, 0, 53]
abbrev dktX7_door_7 : List UInt8 := dkwX7_door_7 ++ dktX7_door_8
def dkwX7_door_6 : List UInt8 := [182, 0, 35, 42, 180, 0, 82, 54, 6, 42, 42, 29, 21, 4, 21, 5, 21, 6, 3, 182, 0, 124, 5]
abbrev dktX7_door_6 : List UInt8 := dkwX7_door_6 ++ dktX7_door_7
def dkwX7_door_5 : List UInt8 := [160, 0, 7, 4, 167, 0, 4, 3, 4, 182, 0, 35, 42, 42, 180, 0, 82, 4, 6, 184, 0, 120, 5]
abbrev dktX7_door_5 : List UInt8 := dkwX7_door_5 ++ dktX7_door_6
def dkwX7_door_4 : List UInt8 := [153, 0, 7, 4, 167, 0, 4, 3, 4, 182, 0, 35, 42, 182, 0, 53, 42, 42, 180, 0, 23, 5]
abbrev dktX7_door_4 : List UInt8 := dkwX7_door_4 ++ dktX7_door_5
def dkwX7_door_3 : List UInt8 := [54, 4, 42, 18, 112, 182, 0, 114, 54, 5, 42, 21, 5, 154, 0, 12, 42, 18, 118, 182, 0, 114]
abbrev dktX7_door_3 : List UInt8 := dkwX7_door_3 ++ dktX7_door_4
def dkwX7_door_2 : List UInt8 := [180, 0, 75, 4, 100, 182, 0, 78, 62, 42, 3, 42, 180, 0, 15, 180, 0, 44, 4, 100, 182, 0, 78]
abbrev dktX7_door_2 : List UInt8 := dkwX7_door_2 ++ dktX7_door_3
def dkwX7_door_1 : List UInt8 := [167, 0, 4, 3, 6, 182, 0, 35, 42, 180, 0, 108, 64, 42, 182, 0, 53, 42, 3, 42, 180, 0, 15]
abbrev dktX7_door_1 : List UInt8 := dkwX7_door_1 ++ dktX7_door_2
def dkwX7_door_0 : List UInt8 := [42, 42, 182, 0, 101, 4, 182, 0, 35, 42, 42, 42, 180, 0, 15, 182, 0, 104, 2, 160, 0, 7, 4]
abbrev dktX7_door_0 : List UInt8 := dkwX7_door_0 ++ dktX7_door_1
theorem dksX7_door_0 : cX7_door.data.toList.drop 0 = dktX7_door_0 := by decide +kernel
theorem dksX7_door_1 : cX7_door.data.toList.drop 23 = dktX7_door_1 := dk_seg dksX7_door_0 23 rfl rfl
theorem dksX7_door_2 : cX7_door.data.toList.drop 46 = dktX7_door_2 := dk_seg dksX7_door_1 23 rfl rfl
theorem dksX7_door_3 : cX7_door.data.toList.drop 69 = dktX7_door_3 := dk_seg dksX7_door_2 23 rfl rfl
theorem dksX7_door_4 : cX7_door.data.toList.drop 91 = dktX7_door_4 := dk_seg dksX7_door_3 22 rfl rfl
theorem dksX7_door_5 : cX7_door.data.toList.drop 113 = dktX7_door_5 := dk_seg dksX7_door_4 22 rfl rfl
theorem dksX7_door_6 : cX7_door.data.toList.drop 136 = dktX7_door_6 := dk_seg dksX7_door_5 23 rfl rfl
theorem dksX7_door_7 : cX7_door.data.toList.drop 159 = dktX7_door_7 := dk_seg dksX7_door_6 23 rfl rfl
theorem dksX7_door_8 : cX7_door.data.toList.drop 183 = dktX7_door_8 := dk_seg dksX7_door_7 24 rfl rfl
theorem dksX7_door_9 : cX7_door.data.toList.drop 205 = dktX7_door_9 := dk_seg dksX7_door_8 22 rfl rfl
theorem dksX7_door_10 : cX7_door.data.toList.drop 227 = dktX7_door_10 := dk_seg dksX7_door_9 22 rfl rfl
theorem dksX7_door_11 : cX7_door.data.toList.drop 251 = dktX7_door_11 := dk_seg dksX7_door_10 24 rfl rfl
theorem dksX7_door_12 : cX7_door.data.toList.drop 274 = dktX7_door_12 := dk_seg dksX7_door_11 23 rfl rfl
theorem dksX7_door_13 : cX7_door.data.toList.drop 298 = dktX7_door_13 := dk_seg dksX7_door_12 24 rfl rfl
theorem dksX7_door_14 : cX7_door.data.toList.drop 322 = dktX7_door_14 := dk_seg dksX7_door_13 24 rfl rfl
theorem dksX7_door_15 : cX7_door.data.toList.drop 344 = dktX7_door_15 := dk_seg dksX7_door_14 22 rfl rfl
theorem dksX7_door_16 : cX7_door.data.toList.drop 367 = dktX7_door_16 := dk_seg dksX7_door_15 23 rfl rfl
theorem dksX7_door_17 : cX7_door.data.toList.drop 390 = dktX7_door_17 := dk_seg dksX7_door_16 23 rfl rfl
theorem dksX7_door_18 : cX7_door.data.toList.drop 414 = dktX7_door_18 := dk_seg dksX7_door_17 24 rfl rfl
theorem dksX7_door_19 : cX7_door.data.toList.drop 436 = dktX7_door_19 := dk_seg dksX7_door_18 22 rfl rfl
theorem dX7_door_0 : decode cX7_door 0 = .ok (.aload_n 0, 1) := dk_42 (dk_at dksX7_door_0 0 rfl rfl)
theorem dX7_door_1 : decode cX7_door 1 = .ok (.aload_n 0, 1) := dk_42 (dk_at dksX7_door_0 1 rfl rfl)
theorem dX7_door_2 : decode cX7_door 2 = .ok (.invokevirtual 101, 3) := dk_182 0 101 (dk_at dksX7_door_0 2 rfl rfl)
theorem dX7_door_5 : decode cX7_door 5 = .ok (.iconst 1, 1) := dk_4 (dk_at dksX7_door_0 5 rfl rfl)
theorem dX7_door_6 : decode cX7_door 6 = .ok (.invokevirtual 35, 3) := dk_182 0 35 (dk_at dksX7_door_0 6 rfl rfl)
theorem dX7_door_9 : decode cX7_door 9 = .ok (.aload_n 0, 1) := dk_42 (dk_at dksX7_door_0 9 rfl rfl)
theorem dX7_door_10 : decode cX7_door 10 = .ok (.aload_n 0, 1) := dk_42 (dk_at dksX7_door_0 10 rfl rfl)
theorem dX7_door_11 : decode cX7_door 11 = .ok (.aload_n 0, 1) := dk_42 (dk_at dksX7_door_0 11 rfl rfl)
theorem dX7_door_12 : decode cX7_door 12 = .ok (.getfield 15, 3) := dk_180 0 15 (dk_at dksX7_door_0 12 rfl rfl)
theorem dX7_door_15 : decode cX7_door 15 = .ok (.invokevirtual 104, 3) := dk_182 0 104 (dk_at dksX7_door_0 15 rfl rfl)
theorem dX7_door_18 : decode cX7_door 18 = .ok (.iconst (-1), 1) := dk_2 (dk_at dksX7_door_0 18 rfl rfl)
theorem dX7_door_19 : decode cX7_door 19 = .ok (.if_icmp .ne 7, 3) := dk_160 0 7 (dk_at dksX7_door_0 19 rfl rfl)
theorem dX7_door_22 : decode cX7_door 22 = .ok (.iconst 1, 1) := dk_4 (dk_at dksX7_door_0 22 rfl rfl)
theorem dX7_door_23 : decode cX7_door 23 = .ok (.goto 4, 3) := dk_167 0 4 (dk_at dksX7_door_1 0 rfl rfl)
theorem dX7_door_26 : decode cX7_door 26 = .ok (.iconst 0, 1) := dk_3 (dk_at dksX7_door_1 3 rfl rfl)
theorem dX7_door_27 : decode cX7_door 27 = .ok (.iconst 3, 1) := dk_6 (dk_at dksX7_door_1 4 rfl rfl)
theorem dX7_door_28 : decode cX7_door 28 = .ok (.invokevirtual 35, 3) := dk_182 0 35 (dk_at dksX7_door_1 5 rfl rfl)
theorem dX7_door_31 : decode cX7_door 31 = .ok (.aload_n 0, 1) := dk_42 (dk_at dksX7_door_1 8 rfl rfl)
theorem dX7_door_32 : decode cX7_door 32 = .ok (.getfield 108, 3) := dk_180 0 108 (dk_at dksX7_door_1 9 rfl rfl)
theorem dX7_door_35 : decode cX7_door 35 = .ok (.lstore_n 1, 1) := dk_64 (dk_at dksX7_door_1 12 rfl rfl)
theorem dX7_door_36 : decode cX7_door 36 = .ok (.aload_n 0, 1) := dk_42 (dk_at dksX7_door_1 13 rfl rfl)
theorem dX7_door_37 : decode cX7_door 37 = .ok (.invokevirtual 53, 3) := dk_182 0 53 (dk_at dksX7_door_1 14 rfl rfl)
theorem dX7_door_40 : decode cX7_door 40 = .ok (.aload_n 0, 1) := dk_42 (dk_at dksX7_door_1 17 rfl rfl)
theorem dX7_door_41 : decode cX7_door 41 = .ok (.iconst 0, 1) := dk_3 (dk_at dksX7_door_1 18 rfl rfl)
theorem dX7_door_42 : decode cX7_door 42 = .ok (.aload_n 0, 1) := dk_42 (dk_at dksX7_door_1 19 rfl rfl)
theorem dX7_door_43 : decode cX7_door 43 = .ok (.getfield 15, 3) := dk_180 0 15 (dk_at dksX7_door_1 20 rfl rfl)
theorem dX7_door_46 : decode cX7_door 46 = .ok (.getfield 75, 3) := dk_180 0 75 (dk_at dksX7_door_2 0 rfl rfl)
theorem dX7_door_49 : decode cX7_door 49 = .ok (.iconst 1, 1) := dk_4 (dk_at dksX7_door_2 3 rfl rfl)
theorem dX7_door_50 : decode cX7_door 50 = .ok (.isub, 1) := dk_100 (dk_at dksX7_door_2 4 rfl rfl)
theorem dX7_door_51 : decode cX7_door 51 = .ok (.invokevirtual 78, 3) := dk_182 0 78 (dk_at dksX7_door_2 5 rfl rfl)
theorem dX7_door_54 : decode cX7_door 54 = .ok (.istore_n 3, 1) := dk_62 (dk_at dksX7_door_2 8 rfl rfl)
theorem dX7_door_55 : decode cX7_door 55 = .ok (.aload_n 0, 1) := dk_42 (dk_at dksX7_door_2 9 rfl rfl)
theorem dX7_door_56 : decode cX7_door 56 = .ok (.iconst 0, 1) := dk_3 (dk_at dksX7_door_2 10 rfl rfl)
theorem dX7_door_57 : decode cX7_door 57 = .ok (.aload_n 0, 1) := dk_42 (dk_at dksX7_door_2 11 rfl rfl)
theorem dX7_door_58 : decode cX7_door 58 = .ok (.getfield 15, 3) := dk_180 0 15 (dk_at dksX7_door_2 12 rfl rfl)
theorem dX7_door_61 : decode cX7_door 61 = .ok (.getfield 44, 3) := dk_180 0 44 (dk_at dksX7_door_2 15 rfl rfl)
theorem dX7_door_64 : decode cX7_door 64 = .ok (.iconst 1, 1) := dk_4 (dk_at dksX7_door_2 18 rfl rfl)
theorem dX7_door_65 : decode cX7_door 65 = .ok (.isub, 1) := dk_100 (dk_at dksX7_door_2 19 rfl rfl)
theorem dX7_door_66 : decode cX7_door 66 = .ok (.invokevirtual 78, 3) := dk_182 0 78 (dk_at dksX7_door_2 20 rfl rfl)
theorem dX7_door_69 : decode cX7_door 69 = .ok (.istore 4, 2) := dk_54 4 (dk_at dksX7_door_3 0 rfl rfl)
theorem dX7_door_71 : decode cX7_door 71 = .ok (.aload_n 0, 1) := dk_42 (dk_at dksX7_door_3 2 rfl rfl)
theorem dX7_door_72 : decode cX7_door 72 = .ok (.ldc 112, 2) := dk_18 112 (dk_at dksX7_door_3 3 rfl rfl)
theorem dX7_door_74 : decode cX7_door 74 = .ok (.invokevirtual 114, 3) := dk_182 0 114 (dk_at dksX7_door_3 5 rfl rfl)
theorem dX7_door_77 : decode cX7_door 77 = .ok (.istore 5, 2) := dk_54 5 (dk_at dksX7_door_3 8 rfl rfl)
theorem dX7_door_79 : decode cX7_door 79 = .ok (.aload_n 0, 1) := dk_42 (dk_at dksX7_door_3 10 rfl rfl)
theorem dX7_door_80 : decode cX7_door 80 = .ok (.iload 5, 2) := dk_21 5 (dk_at dksX7_door_3 11 rfl rfl)
theorem dX7_door_82 : decode cX7_door 82 = .ok (.ifCond .ne 12, 3) := dk_154 0 12 (dk_at dksX7_door_3 13 rfl rfl)
theorem dX7_door_85 : decode cX7_door 85 = .ok (.aload_n 0, 1) := dk_42 (dk_at dksX7_door_3 16 rfl rfl)
theorem dX7_door_86 : decode cX7_door 86 = .ok (.ldc 118, 2) := dk_18 118 (dk_at dksX7_door_3 17 rfl rfl)
theorem dX7_door_88 : decode cX7_door 88 = .ok (.invokevirtual 114, 3) := dk_182 0 114 (dk_at dksX7_door_3 19 rfl rfl)
theorem dX7_door_91 : decode cX7_door 91 = .ok (.ifCond .eq 7, 3) := dk_153 0 7 (dk_at dksX7_door_4 0 rfl rfl)
theorem dX7_door_94 : decode cX7_door 94 = .ok (.iconst 1, 1) := dk_4 (dk_at dksX7_door_4 3 rfl rfl)
theorem dX7_door_95 : decode cX7_door 95 = .ok (.goto 4, 3) := dk_167 0 4 (dk_at dksX7_door_4 4 rfl rfl)
theorem dX7_door_98 : decode cX7_door 98 = .ok (.iconst 0, 1) := dk_3 (dk_at dksX7_door_4 7 rfl rfl)
theorem dX7_door_99 : decode cX7_door 99 = .ok (.iconst 1, 1) := dk_4 (dk_at dksX7_door_4 8 rfl rfl)
theorem dX7_door_100 : decode cX7_door 100 = .ok (.invokevirtual 35, 3) := dk_182 0 35 (dk_at dksX7_door_4 9 rfl rfl)
theorem dX7_door_103 : decode cX7_door 103 = .ok (.aload_n 0, 1) := dk_42 (dk_at dksX7_door_4 12 rfl rfl)
theorem dX7_door_104 : decode cX7_door 104 = .ok (.invokevirtual 53, 3) := dk_182 0 53 (dk_at dksX7_door_4 13 rfl rfl)
theorem dX7_door_107 : decode cX7_door 107 = .ok (.aload_n 0, 1) := dk_42 (dk_at dksX7_door_4 16 rfl rfl)
theorem dX7_door_108 : decode cX7_door 108 = .ok (.aload_n 0, 1) := dk_42 (dk_at dksX7_door_4 17 rfl rfl)
theorem dX7_door_109 : decode cX7_door 109 = .ok (.getfield 23, 3) := dk_180 0 23 (dk_at dksX7_door_4 18 rfl rfl)
theorem dX7_door_112 : decode cX7_door 112 = .ok (.iconst 2, 1) := dk_5 (dk_at dksX7_door_4 21 rfl rfl)
theorem dX7_door_113 : decode cX7_door 113 = .ok (.if_icmp .ne 7, 3) := dk_160 0 7 (dk_at dksX7_door_5 0 rfl rfl)
theorem dX7_door_116 : decode cX7_door 116 = .ok (.iconst 1, 1) := dk_4 (dk_at dksX7_door_5 3 rfl rfl)
theorem dX7_door_117 : decode cX7_door 117 = .ok (.goto 4, 3) := dk_167 0 4 (dk_at dksX7_door_5 4 rfl rfl)
theorem dX7_door_120 : decode cX7_door 120 = .ok (.iconst 0, 1) := dk_3 (dk_at dksX7_door_5 7 rfl rfl)
theorem dX7_door_121 : decode cX7_door 121 = .ok (.iconst 1, 1) := dk_4 (dk_at dksX7_door_5 8 rfl rfl)
theorem dX7_door_122 : decode cX7_door 122 = .ok (.invokevirtual 35, 3) := dk_182 0 35 (dk_at dksX7_door_5 9 rfl rfl)
theorem dX7_door_125 : decode cX7_door 125 = .ok (.aload_n 0, 1) := dk_42 (dk_at dksX7_door_5 12 rfl rfl)
theorem dX7_door_126 : decode cX7_door 126 = .ok (.aload_n 0, 1) := dk_42 (dk_at dksX7_door_5 13 rfl rfl)
theorem dX7_door_127 : decode cX7_door 127 = .ok (.getfield 82, 3) := dk_180 0 82 (dk_at dksX7_door_5 14 rfl rfl)
theorem dX7_door_130 : decode cX7_door 130 = .ok (.iconst 1, 1) := dk_4 (dk_at dksX7_door_5 17 rfl rfl)
theorem dX7_door_131 : decode cX7_door 131 = .ok (.iconst 3, 1) := dk_6 (dk_at dksX7_door_5 18 rfl rfl)
theorem dX7_door_132 : decode cX7_door 132 = .ok (.invokestatic 120, 3) := dk_184 0 120 (dk_at dksX7_door_5 19 rfl rfl)
theorem dX7_door_135 : decode cX7_door 135 = .ok (.iconst 2, 1) := dk_5 (dk_at dksX7_door_5 22 rfl rfl)
theorem dX7_door_136 : decode cX7_door 136 = .ok (.invokevirtual 35, 3) := dk_182 0 35 (dk_at dksX7_door_6 0 rfl rfl)
theorem dX7_door_139 : decode cX7_door 139 = .ok (.aload_n 0, 1) := dk_42 (dk_at dksX7_door_6 3 rfl rfl)
theorem dX7_door_140 : decode cX7_door 140 = .ok (.getfield 82, 3) := dk_180 0 82 (dk_at dksX7_door_6 4 rfl rfl)
theorem dX7_door_143 : decode cX7_door 143 = .ok (.istore 6, 2) := dk_54 6 (dk_at dksX7_door_6 7 rfl rfl)
theorem dX7_door_145 : decode cX7_door 145 = .ok (.aload_n 0, 1) := dk_42 (dk_at dksX7_door_6 9 rfl rfl)
theorem dX7_door_146 : decode cX7_door 146 = .ok (.aload_n 0, 1) := dk_42 (dk_at dksX7_door_6 10 rfl rfl)
theorem dX7_door_147 : decode cX7_door 147 = .ok (.iload_n 3, 1) := dk_29 (dk_at dksX7_door_6 11 rfl rfl)
theorem dX7_door_148 : decode cX7_door 148 = .ok (.iload 4, 2) := dk_21 4 (dk_at dksX7_door_6 12 rfl rfl)
theorem dX7_door_150 : decode cX7_door 150 = .ok (.iload 5, 2) := dk_21 5 (dk_at dksX7_door_6 14 rfl rfl)
theorem dX7_door_152 : decode cX7_door 152 = .ok (.iload 6, 2) := dk_21 6 (dk_at dksX7_door_6 16 rfl rfl)
theorem dX7_door_154 : decode cX7_door 154 = .ok (.iconst 0, 1) := dk_3 (dk_at dksX7_door_6 18 rfl rfl)
theorem dX7_door_155 : decode cX7_door 155 = .ok (.invokevirtual 124, 3) := dk_182 0 124 (dk_at dksX7_door_6 19 rfl rfl)
theorem dX7_door_158 : decode cX7_door 158 = .ok (.iconst 2, 1) := dk_5 (dk_at dksX7_door_6 22 rfl rfl)
theorem dX7_door_159 : decode cX7_door 159 = .ok (.invokevirtual 35, 3) := dk_182 0 35 (dk_at dksX7_door_7 0 rfl rfl)
theorem dX7_door_162 : decode cX7_door 162 = .ok (.aload_n 0, 1) := dk_42 (dk_at dksX7_door_7 3 rfl rfl)
theorem dX7_door_163 : decode cX7_door 163 = .ok (.aload_n 0, 1) := dk_42 (dk_at dksX7_door_7 4 rfl rfl)
theorem dX7_door_164 : decode cX7_door 164 = .ok (.iload_n 3, 1) := dk_29 (dk_at dksX7_door_7 5 rfl rfl)
theorem dX7_door_165 : decode cX7_door 165 = .ok (.iload 4, 2) := dk_21 4 (dk_at dksX7_door_7 6 rfl rfl)
theorem dX7_door_167 : decode cX7_door 167 = .ok (.iload 5, 2) := dk_21 5 (dk_at dksX7_door_7 8 rfl rfl)
theorem dX7_door_169 : decode cX7_door 169 = .ok (.iload 6, 2) := dk_21 6 (dk_at dksX7_door_7 10 rfl rfl)
theorem dX7_door_171 : decode cX7_door 171 = .ok (.iconst 1, 1) := dk_4 (dk_at dksX7_door_7 12 rfl rfl)
theorem dX7_door_172 : decode cX7_door 172 = .ok (.invokevirtual 124, 3) := dk_182 0 124 (dk_at dksX7_door_7 13 rfl rfl)
theorem dX7_door_175 : decode cX7_door 175 = .ok (.iconst 3, 1) := dk_6 (dk_at dksX7_door_7 16 rfl rfl)
theorem dX7_door_176 : decode cX7_door 176 = .ok (.invokevirtual 35, 3) := dk_182 0 35 (dk_at dksX7_door_7 17 rfl rfl)
theorem dX7_door_179 : decode cX7_door 179 = .ok (.aload_n 0, 1) := dk_42 (dk_at dksX7_door_7 20 rfl rfl)
theorem dX7_door_180 : decode cX7_door 180 = .ok (.invokevirtual 53, 3) := dk_182 0 53 (dk_at dksX7_door_7 21 rfl rfl)
theorem dX7_door_183 : decode cX7_door 183 = .ok (.new 128, 3) := dk_187 0 128 (dk_at dksX7_door_8 0 rfl rfl)
theorem dX7_door_186 : decode cX7_door 186 = .ok (.dup, 1) := dk_89 (dk_at dksX7_door_8 3 rfl rfl)
theorem dX7_door_187 : decode cX7_door 187 = .ok (.lload_n 1, 1) := dk_31 (dk_at dksX7_door_8 4 rfl rfl)
theorem dX7_door_188 : decode cX7_door 188 = .ok (.iload_n 3, 1) := dk_29 (dk_at dksX7_door_8 5 rfl rfl)
theorem dX7_door_189 : decode cX7_door 189 = .ok (.iload 4, 2) := dk_21 4 (dk_at dksX7_door_8 6 rfl rfl)
theorem dX7_door_191 : decode cX7_door 191 = .ok (.iload 5, 2) := dk_21 5 (dk_at dksX7_door_8 8 rfl rfl)
theorem dX7_door_193 : decode cX7_door 193 = .ok (.iload 6, 2) := dk_21 6 (dk_at dksX7_door_8 10 rfl rfl)
theorem dX7_door_195 : decode cX7_door 195 = .ok (.invokespecial 130, 3) := dk_183 0 130 (dk_at dksX7_door_8 12 rfl rfl)
theorem dX7_door_198 : decode cX7_door 198 = .ok (.astore 7, 2) := dk_58 7 (dk_at dksX7_door_8 15 rfl rfl)
theorem dX7_door_200 : decode cX7_door 200 = .ok (.aload 7, 2) := dk_25 7 (dk_at dksX7_door_8 17 rfl rfl)
theorem dX7_door_202 : decode cX7_door 202 = .ok (.aload_n 0, 1) := dk_42 (dk_at dksX7_door_8 19 rfl rfl)
theorem dX7_door_203 : decode cX7_door 203 = .ok (.iconst 0, 1) := dk_3 (dk_at dksX7_door_8 20 rfl rfl)
theorem dX7_door_204 : decode cX7_door 204 = .ok (.iconst 3, 1) := dk_6 (dk_at dksX7_door_8 21 rfl rfl)
theorem dX7_door_205 : decode cX7_door 205 = .ok (.invokevirtual 78, 3) := dk_182 0 78 (dk_at dksX7_door_9 0 rfl rfl)
theorem dX7_door_208 : decode cX7_door 208 = .ok (.putfield 133, 3) := dk_181 0 133 (dk_at dksX7_door_9 3 rfl rfl)
theorem dX7_door_211 : decode cX7_door 211 = .ok (.aload 7, 2) := dk_25 7 (dk_at dksX7_door_9 6 rfl rfl)
theorem dX7_door_213 : decode cX7_door 213 = .ok (.aload 7, 2) := dk_25 7 (dk_at dksX7_door_9 8 rfl rfl)
theorem dX7_door_215 : decode cX7_door 215 = .ok (.getfield 133, 3) := dk_180 0 133 (dk_at dksX7_door_9 10 rfl rfl)
theorem dX7_door_218 : decode cX7_door 218 = .ok (.invokestatic 136, 3) := dk_184 0 136 (dk_at dksX7_door_9 13 rfl rfl)
theorem dX7_door_221 : decode cX7_door 221 = .ok (.putfield 140, 3) := dk_181 0 140 (dk_at dksX7_door_9 16 rfl rfl)
theorem dX7_door_224 : decode cX7_door 224 = .ok (.aload_n 0, 1) := dk_42 (dk_at dksX7_door_9 19 rfl rfl)
theorem dX7_door_225 : decode cX7_door 225 = .ok (.ldc 143, 2) := dk_18 143 (dk_at dksX7_door_9 20 rfl rfl)
theorem dX7_door_227 : decode cX7_door 227 = .ok (.invokevirtual 114, 3) := dk_182 0 114 (dk_at dksX7_door_10 0 rfl rfl)
theorem dX7_door_230 : decode cX7_door 230 = .ok (.ifCond .eq 92, 3) := dk_153 0 92 (dk_at dksX7_door_10 3 rfl rfl)
theorem dX7_door_233 : decode cX7_door 233 = .ok (.aload_n 0, 1) := dk_42 (dk_at dksX7_door_10 6 rfl rfl)
theorem dX7_door_234 : decode cX7_door 234 = .ok (.invokevirtual 53, 3) := dk_182 0 53 (dk_at dksX7_door_10 7 rfl rfl)
theorem dX7_door_237 : decode cX7_door 237 = .ok (.aload_n 0, 1) := dk_42 (dk_at dksX7_door_10 10 rfl rfl)
theorem dX7_door_238 : decode cX7_door 238 = .ok (.aload_n 0, 1) := dk_42 (dk_at dksX7_door_10 11 rfl rfl)
theorem dX7_door_239 : decode cX7_door 239 = .ok (.getfield 23, 3) := dk_180 0 23 (dk_at dksX7_door_10 12 rfl rfl)
theorem dX7_door_242 : decode cX7_door 242 = .ok (.iconst 2, 1) := dk_5 (dk_at dksX7_door_10 15 rfl rfl)
theorem dX7_door_243 : decode cX7_door 243 = .ok (.if_icmp .ne 7, 3) := dk_160 0 7 (dk_at dksX7_door_10 16 rfl rfl)
theorem dX7_door_246 : decode cX7_door 246 = .ok (.iconst 1, 1) := dk_4 (dk_at dksX7_door_10 19 rfl rfl)
theorem dX7_door_247 : decode cX7_door 247 = .ok (.goto 4, 3) := dk_167 0 4 (dk_at dksX7_door_10 20 rfl rfl)
theorem dX7_door_250 : decode cX7_door 250 = .ok (.iconst 0, 1) := dk_3 (dk_at dksX7_door_10 23 rfl rfl)
theorem dX7_door_251 : decode cX7_door 251 = .ok (.iconst 1, 1) := dk_4 (dk_at dksX7_door_11 0 rfl rfl)
theorem dX7_door_252 : decode cX7_door 252 = .ok (.invokevirtual 35, 3) := dk_182 0 35 (dk_at dksX7_door_11 1 rfl rfl)
theorem dX7_door_255 : decode cX7_door 255 = .ok (.aload_n 0, 1) := dk_42 (dk_at dksX7_door_11 4 rfl rfl)
theorem dX7_door_256 : decode cX7_door 256 = .ok (.aload_n 0, 1) := dk_42 (dk_at dksX7_door_11 5 rfl rfl)
theorem dX7_door_257 : decode cX7_door 257 = .ok (.getfield 82, 3) := dk_180 0 82 (dk_at dksX7_door_11 6 rfl rfl)
theorem dX7_door_260 : decode cX7_door 260 = .ok (.iconst 4, 1) := dk_7 (dk_at dksX7_door_11 9 rfl rfl)
theorem dX7_door_261 : decode cX7_door 261 = .ok (.if_icmp .ge 7, 3) := dk_162 0 7 (dk_at dksX7_door_11 10 rfl rfl)
theorem dX7_door_264 : decode cX7_door 264 = .ok (.iconst 1, 1) := dk_4 (dk_at dksX7_door_11 13 rfl rfl)
theorem dX7_door_265 : decode cX7_door 265 = .ok (.goto 4, 3) := dk_167 0 4 (dk_at dksX7_door_11 14 rfl rfl)
theorem dX7_door_268 : decode cX7_door 268 = .ok (.iconst 0, 1) := dk_3 (dk_at dksX7_door_11 17 rfl rfl)
theorem dX7_door_269 : decode cX7_door 269 = .ok (.iconst 2, 1) := dk_5 (dk_at dksX7_door_11 18 rfl rfl)
theorem dX7_door_270 : decode cX7_door 270 = .ok (.invokevirtual 35, 3) := dk_182 0 35 (dk_at dksX7_door_11 19 rfl rfl)
theorem dX7_door_273 : decode cX7_door 273 = .ok (.aload_n 0, 1) := dk_42 (dk_at dksX7_door_11 22 rfl rfl)
theorem dX7_door_274 : decode cX7_door 274 = .ok (.aload 7, 2) := dk_25 7 (dk_at dksX7_door_12 0 rfl rfl)
theorem dX7_door_276 : decode cX7_door 276 = .ok (.getfield 140, 3) := dk_180 0 140 (dk_at dksX7_door_12 2 rfl rfl)
theorem dX7_door_279 : decode cX7_door 279 = .ok (.aload_n 0, 1) := dk_42 (dk_at dksX7_door_12 5 rfl rfl)
theorem dX7_door_280 : decode cX7_door 280 = .ok (.getfield 82, 3) := dk_180 0 82 (dk_at dksX7_door_12 6 rfl rfl)
theorem dX7_door_283 : decode cX7_door 283 = .ok (.invokestatic 145, 3) := dk_184 0 145 (dk_at dksX7_door_12 9 rfl rfl)
theorem dX7_door_286 : decode cX7_door 286 = .ok (.ifCond .ne 7, 3) := dk_154 0 7 (dk_at dksX7_door_12 12 rfl rfl)
theorem dX7_door_289 : decode cX7_door 289 = .ok (.iconst 1, 1) := dk_4 (dk_at dksX7_door_12 15 rfl rfl)
theorem dX7_door_290 : decode cX7_door 290 = .ok (.goto 4, 3) := dk_167 0 4 (dk_at dksX7_door_12 16 rfl rfl)
theorem dX7_door_293 : decode cX7_door 293 = .ok (.iconst 0, 1) := dk_3 (dk_at dksX7_door_12 19 rfl rfl)
theorem dX7_door_294 : decode cX7_door 294 = .ok (.iconst 3, 1) := dk_6 (dk_at dksX7_door_12 20 rfl rfl)
theorem dX7_door_295 : decode cX7_door 295 = .ok (.invokevirtual 35, 3) := dk_182 0 35 (dk_at dksX7_door_12 21 rfl rfl)
theorem dX7_door_298 : decode cX7_door 298 = .ok (.aload 7, 2) := dk_25 7 (dk_at dksX7_door_13 0 rfl rfl)
theorem dX7_door_300 : decode cX7_door 300 = .ok (.dup, 1) := dk_89 (dk_at dksX7_door_13 2 rfl rfl)
theorem dX7_door_301 : decode cX7_door 301 = .ok (.getfield 140, 3) := dk_180 0 140 (dk_at dksX7_door_13 3 rfl rfl)
theorem dX7_door_304 : decode cX7_door 304 = .ok (.aload_n 0, 1) := dk_42 (dk_at dksX7_door_13 6 rfl rfl)
theorem dX7_door_305 : decode cX7_door 305 = .ok (.getfield 82, 3) := dk_180 0 82 (dk_at dksX7_door_13 7 rfl rfl)
theorem dX7_door_308 : decode cX7_door 308 = .ok (.invokestatic 136, 3) := dk_184 0 136 (dk_at dksX7_door_13 10 rfl rfl)
theorem dX7_door_311 : decode cX7_door 311 = .ok (.ior, 1) := dk_128 (dk_at dksX7_door_13 13 rfl rfl)
theorem dX7_door_312 : decode cX7_door 312 = .ok (.putfield 140, 3) := dk_181 0 140 (dk_at dksX7_door_13 14 rfl rfl)
theorem dX7_door_315 : decode cX7_door 315 = .ok (.aload_n 0, 1) := dk_42 (dk_at dksX7_door_13 17 rfl rfl)
theorem dX7_door_316 : decode cX7_door 316 = .ok (.invokevirtual 53, 3) := dk_182 0 53 (dk_at dksX7_door_13 18 rfl rfl)
theorem dX7_door_319 : decode cX7_door 319 = .ok (.goto (-95), 3) := dk_167 255 161 (dk_at dksX7_door_13 21 rfl rfl)
theorem dX7_door_322 : decode cX7_door 322 = .ok (.aload_n 0, 1) := dk_42 (dk_at dksX7_door_14 0 rfl rfl)
theorem dX7_door_323 : decode cX7_door 323 = .ok (.ldc 149, 2) := dk_18 149 (dk_at dksX7_door_14 1 rfl rfl)
theorem dX7_door_325 : decode cX7_door 325 = .ok (.invokevirtual 114, 3) := dk_182 0 114 (dk_at dksX7_door_14 3 rfl rfl)
theorem dX7_door_328 : decode cX7_door 328 = .ok (.ifCond .eq 19, 3) := dk_153 0 19 (dk_at dksX7_door_14 6 rfl rfl)
theorem dX7_door_331 : decode cX7_door 331 = .ok (.aload_n 0, 1) := dk_42 (dk_at dksX7_door_14 9 rfl rfl)
theorem dX7_door_332 : decode cX7_door 332 = .ok (.invokevirtual 53, 3) := dk_182 0 53 (dk_at dksX7_door_14 10 rfl rfl)
theorem dX7_door_335 : decode cX7_door 335 = .ok (.aload 7, 2) := dk_25 7 (dk_at dksX7_door_14 13 rfl rfl)
theorem dX7_door_337 : decode cX7_door 337 = .ok (.aload_n 0, 1) := dk_42 (dk_at dksX7_door_14 15 rfl rfl)
theorem dX7_door_338 : decode cX7_door 338 = .ok (.iconst 1, 1) := dk_4 (dk_at dksX7_door_14 16 rfl rfl)
theorem dX7_door_339 : decode cX7_door 339 = .ok (.bipush 99, 2) := dk_16 99 (dk_at dksX7_door_14 17 rfl rfl)
theorem dX7_door_341 : decode cX7_door 341 = .ok (.invokevirtual 78, 3) := dk_182 0 78 (dk_at dksX7_door_14 19 rfl rfl)
theorem dX7_door_344 : decode cX7_door 344 = .ok (.putfield 151, 3) := dk_181 0 151 (dk_at dksX7_door_15 0 rfl rfl)
theorem dX7_door_347 : decode cX7_door 347 = .ok (.aload_n 0, 1) := dk_42 (dk_at dksX7_door_15 3 rfl rfl)
theorem dX7_door_348 : decode cX7_door 348 = .ok (.ldc 153, 2) := dk_18 153 (dk_at dksX7_door_15 4 rfl rfl)
theorem dX7_door_350 : decode cX7_door 350 = .ok (.invokevirtual 114, 3) := dk_182 0 114 (dk_at dksX7_door_15 6 rfl rfl)
theorem dX7_door_353 : decode cX7_door 353 = .ok (.ifCond .eq 13, 3) := dk_153 0 13 (dk_at dksX7_door_15 9 rfl rfl)
theorem dX7_door_356 : decode cX7_door 356 = .ok (.aload 7, 2) := dk_25 7 (dk_at dksX7_door_15 12 rfl rfl)
theorem dX7_door_358 : decode cX7_door 358 = .ok (.iconst 1, 1) := dk_4 (dk_at dksX7_door_15 14 rfl rfl)
theorem dX7_door_359 : decode cX7_door 359 = .ok (.putfield 155, 3) := dk_181 0 155 (dk_at dksX7_door_15 15 rfl rfl)
theorem dX7_door_362 : decode cX7_door 362 = .ok (.aload_n 0, 1) := dk_42 (dk_at dksX7_door_15 18 rfl rfl)
theorem dX7_door_363 : decode cX7_door 363 = .ok (.invokevirtual 53, 3) := dk_182 0 53 (dk_at dksX7_door_15 19 rfl rfl)
theorem dX7_door_366 : decode cX7_door 366 = .ok (.iconst 0, 1) := dk_3 (dk_at dksX7_door_15 22 rfl rfl)
theorem dX7_door_367 : decode cX7_door 367 = .ok (.istore 8, 2) := dk_54 8 (dk_at dksX7_door_16 0 rfl rfl)
theorem dX7_door_369 : decode cX7_door 369 = .ok (.iload 8, 2) := dk_21 8 (dk_at dksX7_door_16 2 rfl rfl)
theorem dX7_door_371 : decode cX7_door 371 = .ok (.iload 6, 2) := dk_21 6 (dk_at dksX7_door_16 4 rfl rfl)
theorem dX7_door_373 : decode cX7_door 373 = .ok (.if_icmp .ge 55, 3) := dk_162 0 55 (dk_at dksX7_door_16 6 rfl rfl)
theorem dX7_door_376 : decode cX7_door 376 = .ok (.aload_n 0, 1) := dk_42 (dk_at dksX7_door_16 9 rfl rfl)
theorem dX7_door_377 : decode cX7_door 377 = .ok (.getfield 15, 3) := dk_180 0 15 (dk_at dksX7_door_16 10 rfl rfl)
theorem dX7_door_380 : decode cX7_door 380 = .ok (.getfield 85, 3) := dk_180 0 85 (dk_at dksX7_door_16 13 rfl rfl)
theorem dX7_door_383 : decode cX7_door 383 = .ok (.iload 5, 2) := dk_21 5 (dk_at dksX7_door_16 16 rfl rfl)
theorem dX7_door_385 : decode cX7_door 385 = .ok (.ifCond .eq 16, 3) := dk_153 0 16 (dk_at dksX7_door_16 18 rfl rfl)
theorem dX7_door_388 : decode cX7_door 388 = .ok (.bipush 10, 2) := dk_16 10 (dk_at dksX7_door_16 21 rfl rfl)
theorem dX7_door_390 : decode cX7_door 390 = .ok (.iload 4, 2) := dk_21 4 (dk_at dksX7_door_17 0 rfl rfl)
theorem dX7_door_392 : decode cX7_door 392 = .ok (.iload 8, 2) := dk_21 8 (dk_at dksX7_door_17 2 rfl rfl)
theorem dX7_door_394 : decode cX7_door 394 = .ok (.iadd, 1) := dk_96 (dk_at dksX7_door_17 4 rfl rfl)
theorem dX7_door_395 : decode cX7_door 395 = .ok (.imul, 1) := dk_104 (dk_at dksX7_door_17 5 rfl rfl)
theorem dX7_door_396 : decode cX7_door 396 = .ok (.iload_n 3, 1) := dk_29 (dk_at dksX7_door_17 6 rfl rfl)
theorem dX7_door_397 : decode cX7_door 397 = .ok (.iadd, 1) := dk_96 (dk_at dksX7_door_17 7 rfl rfl)
theorem dX7_door_398 : decode cX7_door 398 = .ok (.goto 13, 3) := dk_167 0 13 (dk_at dksX7_door_17 8 rfl rfl)
theorem dX7_door_401 : decode cX7_door 401 = .ok (.bipush 10, 2) := dk_16 10 (dk_at dksX7_door_17 11 rfl rfl)
theorem dX7_door_403 : decode cX7_door 403 = .ok (.iload 4, 2) := dk_21 4 (dk_at dksX7_door_17 13 rfl rfl)
theorem dX7_door_405 : decode cX7_door 405 = .ok (.imul, 1) := dk_104 (dk_at dksX7_door_17 15 rfl rfl)
theorem dX7_door_406 : decode cX7_door 406 = .ok (.iload_n 3, 1) := dk_29 (dk_at dksX7_door_17 16 rfl rfl)
theorem dX7_door_407 : decode cX7_door 407 = .ok (.iadd, 1) := dk_96 (dk_at dksX7_door_17 17 rfl rfl)
theorem dX7_door_408 : decode cX7_door 408 = .ok (.iload 8, 2) := dk_21 8 (dk_at dksX7_door_17 18 rfl rfl)
theorem dX7_door_410 : decode cX7_door 410 = .ok (.iadd, 1) := dk_96 (dk_at dksX7_door_17 20 rfl rfl)
theorem dX7_door_411 : decode cX7_door 411 = .ok (.bipush 10, 2) := dk_16 10 (dk_at dksX7_door_17 21 rfl rfl)
theorem dX7_door_413 : decode cX7_door 413 = .ok (.aload_n 0, 1) := dk_42 (dk_at dksX7_door_17 23 rfl rfl)
theorem dX7_door_414 : decode cX7_door 414 = .ok (.getfield 15, 3) := dk_180 0 15 (dk_at dksX7_door_18 0 rfl rfl)
theorem dX7_door_417 : decode cX7_door 417 = .ok (.getfield 47, 3) := dk_180 0 47 (dk_at dksX7_door_18 3 rfl rfl)
theorem dX7_door_420 : decode cX7_door 420 = .ok (.iadd, 1) := dk_96 (dk_at dksX7_door_18 6 rfl rfl)
theorem dX7_door_421 : decode cX7_door 421 = .ok (.iastore, 1) := dk_79 (dk_at dksX7_door_18 7 rfl rfl)
theorem dX7_door_422 : decode cX7_door 422 = .ok (.iinc 8 1, 3) := dk_132 8 1 (dk_at dksX7_door_18 8 rfl rfl)
theorem dX7_door_425 : decode cX7_door 425 = .ok (.goto (-56), 3) := dk_167 255 200 (dk_at dksX7_door_18 11 rfl rfl)
theorem dX7_door_428 : decode cX7_door 428 = .ok (.aload_n 0, 1) := dk_42 (dk_at dksX7_door_18 14 rfl rfl)
theorem dX7_door_429 : decode cX7_door 429 = .ok (.getfield 15, 3) := dk_180 0 15 (dk_at dksX7_door_18 15 rfl rfl)
theorem dX7_door_432 : decode cX7_door 432 = .ok (.getfield 158, 3) := dk_180 0 158 (dk_at dksX7_door_18 18 rfl rfl)
theorem dX7_door_435 : decode cX7_door 435 = .ok (.aload_n 0, 1) := dk_42 (dk_at dksX7_door_18 21 rfl rfl)
theorem dX7_door_436 : decode cX7_door 436 = .ok (.getfield 15, 3) := dk_180 0 15 (dk_at dksX7_door_19 0 rfl rfl)
theorem dX7_door_439 : decode cX7_door 439 = .ok (.getfield 47, 3) := dk_180 0 47 (dk_at dksX7_door_19 3 rfl rfl)
theorem dX7_door_442 : decode cX7_door 442 = .ok (.aload 7, 2) := dk_25 7 (dk_at dksX7_door_19 6 rfl rfl)
theorem dX7_door_444 : decode cX7_door 444 = .ok (.aastore, 1) := dk_83 (dk_at dksX7_door_19 8 rfl rfl)
theorem dX7_door_445 : decode cX7_door 445 = .ok (.aload_n 0, 1) := dk_42 (dk_at dksX7_door_19 9 rfl rfl)
theorem dX7_door_446 : decode cX7_door 446 = .ok (.getfield 15, 3) := dk_180 0 15 (dk_at dksX7_door_19 10 rfl rfl)
theorem dX7_door_449 : decode cX7_door 449 = .ok (.dup, 1) := dk_89 (dk_at dksX7_door_19 13 rfl rfl)
theorem dX7_door_450 : decode cX7_door 450 = .ok (.getfield 47, 3) := dk_180 0 47 (dk_at dksX7_door_19 14 rfl rfl)
theorem dX7_door_453 : decode cX7_door 453 = .ok (.iconst 1, 1) := dk_4 (dk_at dksX7_door_19 17 rfl rfl)
theorem dX7_door_454 : decode cX7_door 454 = .ok (.iadd, 1) := dk_96 (dk_at dksX7_door_19 18 rfl rfl)
theorem dX7_door_455 : decode cX7_door 455 = .ok (.putfield 47, 3) := dk_181 0 47 (dk_at dksX7_door_19 19 rfl rfl)
theorem dX7_door_458 : decode cX7_door 458 = .ok (.return_, 1) := dk_177 (dk_at dksX7_door_19 22 rfl rfl)
theorem fl_X7_108 : gFl "BitingDoors$HouseReader" 108 [5] 6 := by
  intro args s hts hN ci hc
  simp only [List.mem_cons, List.not_mem_nil, or_false] at hc
  subst hc
  exact ⟨RX7, TX7, 10, "BitingDoors$HouseReader", gCl_X7, in_X7, by decide, Or.inl (hts _ q407), u_same (hts _ q408)⟩
theorem fl_X7_133 : gFl "BitingDoors$HouseReader" 133 [9] 8 := by
  intro args s hts hN ci hc
  simp only [List.mem_cons, List.not_mem_nil, or_false] at hc
  subst hc
  exact ⟨RX11, TX11, 12, "BitingDoors$Door", gCl_X11, in_X11, by decide, Or.inr ⟨"BitingDoors", va_Nw.use rfl (hN.1 ("BitingDoors$HouseReader", 133, "BitingDoors$Door", "hanging", "I", "BitingDoors") (List.mem_of_getElem? (i := 53) rfl))⟩, fun _ h => h⟩
theorem fl_X7_140 : gFl "BitingDoors$HouseReader" 140 [9] 9 := by
  intro args s hts hN ci hc
  simp only [List.mem_cons, List.not_mem_nil, or_false] at hc
  subst hc
  exact ⟨RX11, TX11, 12, "BitingDoors$Door", gCl_X11, in_X11, by decide, Or.inr ⟨"BitingDoors", va_Nw.use rfl (hN.1 ("BitingDoors$HouseReader", 140, "BitingDoors$Door", "told", "I", "BitingDoors") (List.mem_of_getElem? (i := 54) rfl))⟩, fun _ h => h⟩
theorem fl_X7_158 : gFl "BitingDoors$HouseReader" 158 [3] 2 := by
  intro args s hts hN ci hc
  simp only [List.mem_cons, List.not_mem_nil, or_false] at hc
  subst hc
  exact ⟨RX4, TX4, 9, "BitingDoors$House", gCl_X4, in_X4, by decide, Or.inr ⟨"BitingDoors", va_Nw.use rfl (hN.1 ("BitingDoors$HouseReader", 158, "BitingDoors$House", "doors", "[LBitingDoors$Door;", "BitingDoors") (List.mem_of_getElem? (i := 45) rfl))⟩, fun _ h => h⟩
theorem fl_X7_47 : gFl "BitingDoors$HouseReader" 47 [3] 6 := by
  intro args s hts hN ci hc
  simp only [List.mem_cons, List.not_mem_nil, or_false] at hc
  subst hc
  exact ⟨RX4, TX4, 9, "BitingDoors$House", gCl_X4, in_X4, by decide, Or.inr ⟨"BitingDoors", va_Nw.use rfl (hN.1 ("BitingDoors$HouseReader", 47, "BitingDoors$House", "many", "I", "BitingDoors") (List.mem_of_getElem? (i := 48) rfl))⟩, fun _ h => h⟩
theorem fl_X7_82 : gFl "BitingDoors$HouseReader" 82 [5] 4 := by
  intro args s hts hN ci hc
  simp only [List.mem_cons, List.not_mem_nil, or_false] at hc
  subst hc
  exact ⟨RX7, TX7, 10, "BitingDoors$HouseReader", gCl_X7, in_X7, by decide, Or.inl (hts _ q399), u_same (hts _ q400)⟩
theorem fp_X7_133 {nm : String} : gFp "BitingDoors$HouseReader" nm 133 [9] 8 .int := by
  intro args s hts hN ci hc
  simp only [List.mem_cons, List.not_mem_nil, or_false] at hc
  subst hc
  exact ⟨RX11, TX11, 12, "BitingDoors$Door", gCl_X11, in_X11, by decide, Or.inl ⟨rfl, Or.inr ⟨"BitingDoors", va_Nw.use rfl (hN.1 ("BitingDoors$HouseReader", 133, "BitingDoors$Door", "hanging", "I", "BitingDoors") (List.mem_of_getElem? (i := 53) rfl))⟩⟩, fun _ h => h, rfl, fun D tys hK => gap_X11 hts hK⟩
theorem fp_X7_140 {nm : String} : gFp "BitingDoors$HouseReader" nm 140 [9] 9 .int := by
  intro args s hts hN ci hc
  simp only [List.mem_cons, List.not_mem_nil, or_false] at hc
  subst hc
  exact ⟨RX11, TX11, 12, "BitingDoors$Door", gCl_X11, in_X11, by decide, Or.inl ⟨rfl, Or.inr ⟨"BitingDoors", va_Nw.use rfl (hN.1 ("BitingDoors$HouseReader", 140, "BitingDoors$Door", "told", "I", "BitingDoors") (List.mem_of_getElem? (i := 54) rfl))⟩⟩, fun _ h => h, rfl, fun D tys hK => gap_X11 hts hK⟩
theorem fp_X7_151 {nm : String} : gFp "BitingDoors$HouseReader" nm 151 [9] 10 .int := by
  intro args s hts hN ci hc
  simp only [List.mem_cons, List.not_mem_nil, or_false] at hc
  subst hc
  exact ⟨RX11, TX11, 12, "BitingDoors$Door", gCl_X11, in_X11, by decide, Or.inl ⟨rfl, Or.inr ⟨"BitingDoors", va_Nw.use rfl (hN.1 ("BitingDoors$HouseReader", 151, "BitingDoors$Door", "costs", "I", "BitingDoors") (List.mem_of_getElem? (i := 55) rfl))⟩⟩, fun _ h => h, rfl, fun D tys hK => gap_X11 hts hK⟩
theorem fp_X7_155 {nm : String} : gFp "BitingDoors$HouseReader" nm 155 [9] 11 .boolean := by
  intro args s hts hN ci hc
  simp only [List.mem_cons, List.not_mem_nil, or_false] at hc
  subst hc
  exact ⟨RX11, TX11, 12, "BitingDoors$Door", gCl_X11, in_X11, by decide, Or.inl ⟨rfl, Or.inr ⟨"BitingDoors", va_Nw.use rfl (hN.1 ("BitingDoors$HouseReader", 155, "BitingDoors$Door", "whole", "Z", "BitingDoors") (List.mem_of_getElem? (i := 56) rfl))⟩⟩, fun _ h => h, rfl, fun D tys hK => gap_X11 hts hK⟩
theorem fp_X7_47 {nm : String} : gFp "BitingDoors$HouseReader" nm 47 [3] 6 .int := by
  intro args s hts hN ci hc
  simp only [List.mem_cons, List.not_mem_nil, or_false] at hc
  subst hc
  exact ⟨RX4, TX4, 9, "BitingDoors$House", gCl_X4, in_X4, by decide, Or.inl ⟨rfl, Or.inr ⟨"BitingDoors", va_Nw.use rfl (hN.1 ("BitingDoors$HouseReader", 47, "BitingDoors$House", "many", "I", "BitingDoors") (List.mem_of_getElem? (i := 48) rfl))⟩⟩, fun _ h => h, rfl, fun D tys hK => gap_X4 hts hK⟩
theorem hu_X7_114 : ∀ ci ∈ [5], ∃ rr : vw_C, gCl[ci]? = some rr ∧ GoodIn lw_all (va_wsU "BitingDoors$HouseReader" 114 rr.1 "BitingDoors$Reader" ⟨"BitingDoors$HouseReader", "is", "(Ljava/lang/String;)Z"⟩ yX6_is (ws_ yX6_is cX6_is 3 (some .boolean))) := by
  intro ci hc
  simp only [List.mem_cons, List.not_mem_nil, or_false] at hc
  subst hc
  refine ⟨_, gCl_X7, lw_app (fun w hw => ?_) (lw_meth q710)⟩
  simp only [List.mem_cons, List.not_mem_nil, or_false] at hw
  rcases hw with e | e | e | e | e
  · rw [e]; exact q816
  · rw [e]; exact q817
  · rw [e]; exact q819
  · rw [e]; exact q705
  · rw [e]; exact q116
theorem hu_X7_78 : ∀ ci ∈ [5], ∃ rr : vw_C, gCl[ci]? = some rr ∧ GoodIn lw_all (va_wsU "BitingDoors$HouseReader" 78 rr.1 "BitingDoors$Reader" ⟨"BitingDoors$HouseReader", "number", "(II)I"⟩ yX6_number (ws_ yX6_number cX6_number 4 (some .int))) := by
  intro ci hc
  simp only [List.mem_cons, List.not_mem_nil, or_false] at hc
  subst hc
  refine ⟨_, gCl_X7, lw_app (fun w hw => ?_) (lw_meth q813)⟩
  simp only [List.mem_cons, List.not_mem_nil, or_false] at hw
  rcases hw with e | e | e | e | e
  · rw [e]; exact q808
  · rw [e]; exact q809
  · rw [e]; exact q811
  · rw [e]; exact q812
  · rw [e]; exact q116
theorem nw_X7_128 : gNw "BitingDoors$HouseReader" 128 9 12 [.long 0, .int 0, .int 0, .int 0, .int 0, .null, .null, .null, .int 0, .int 0, .int 0, .int 0] := ⟨RX11, TX11, tyX11, gCl_X11, in_X11, tyX11_ok, q831, q832, q125, by decide, rfl⟩
theorem dn_X7_door : yX7_door.cls ≠ "java/lang/invoke/MethodHandle" ∧ yX7_door.cls ≠ "java/lang/invoke/VarHandle" ∧ (parseMethodDescriptor yX7_door.desc).map (fun d => d.parameters.length) = some 0 := by decide +kernel
noncomputable def M_X7_door (t : Nat) : Mo (Nat ⊕ Unit) := Mo.bind (chk [5] t) (fun _ => Mo.bind (Mo.bind (chk [5] t) (fun _ => M_X6_isName t)) (fun v1 => Mo.bind (Mo.bind (chk [5] t) (fun _ => M_X6_must t v1 1)) (fun w => Mo.cs w (fun b => Mo.pure (Sum.inl b)) (fun v2 => Mo.bind (gR [5] t 8) (fun v3 => Mo.bind (Mo.bind (chk [5] t) (fun _ => M_X6_of t v3)) (fun v4 => Mo.bind ((if v4 = (-1) then Mo.pure true else Mo.pure false : Mo (Bool))) (fun u5 => Mo.bind (Mo.bind (chk [5] t) (fun _ => M_X6_must t u5 3)) (fun w => Mo.cs w (fun b => Mo.pure (Sum.inl b)) (fun v6 => Mo.bind (gL [5] t 6) (fun v7 => Mo.bind (Mo.bind (chk [5] t) (fun _ => M_X6_next t)) (fun v8 => Mo.bind (gR [5] t 8) (fun v9 => Mo.bind (gI [3] v9 4) (fun v10 => Mo.bind (Mo.bind (chk [5] t) (fun _ => M_X6_number t 0 (v10 - 1))) (fun w => Mo.cs w (fun b => Mo.pure (Sum.inl b)) (fun v11 => Mo.bind (gR [5] t 8) (fun v12 => Mo.bind (gI [3] v12 5) (fun v13 => Mo.bind (Mo.bind (chk [5] t) (fun _ => M_X6_number t 0 (v13 - 1))) (fun w => Mo.cs w (fun b => Mo.pure (Sum.inl b)) (fun v14 => Mo.bind (Mo.bind (chk [5] t) (fun _ => M_X6_is t 26)) (fun v15 => Mo.bind ((cond v15 (Mo.pure true) (Mo.bind (Mo.bind (chk [5] t) (fun _ => M_X6_is t 27)) (fun v97 => cond v97 (Mo.pure true) (Mo.pure false))) : Mo (Bool))) (fun u16 => Mo.bind (Mo.bind (chk [5] t) (fun _ => M_X6_must t u16 1)) (fun w => Mo.cs w (fun b => Mo.pure (Sum.inl b)) (fun v17 => Mo.bind (Mo.bind (chk [5] t) (fun _ => M_X6_next t)) (fun v18 => Mo.bind (gI [5] t 3) (fun v19 => Mo.bind ((if v19 = 2 then Mo.pure true else Mo.pure false : Mo (Bool))) (fun u20 => Mo.bind (Mo.bind (chk [5] t) (fun _ => M_X6_must t u20 1)) (fun w => Mo.cs w (fun b => Mo.pure (Sum.inl b)) (fun v21 => Mo.bind (gI [5] t 4) (fun v22 => Mo.bind (M_X1_isIn v22 1 3) (fun v23 => Mo.bind (Mo.bind (chk [5] t) (fun _ => M_X6_must t v23 2)) (fun w => Mo.cs w (fun b => Mo.pure (Sum.inl b)) (fun v24 => Mo.bind (gI [5] t 4) (fun v25 => Mo.bind (M_X7_isWay t v11 v14 v15 v25 false) (fun v26 => Mo.bind (Mo.bind (chk [5] t) (fun _ => M_X6_must t v26 2)) (fun w => Mo.cs w (fun b => Mo.pure (Sum.inl b)) (fun v27 => Mo.bind (M_X7_isWay t v11 v14 v15 v25 true) (fun v28 => Mo.bind (Mo.bind (chk [5] t) (fun _ => M_X6_must t v28 3)) (fun w => Mo.cs w (fun b => Mo.pure (Sum.inl b)) (fun v29 => Mo.bind (Mo.bind (chk [5] t) (fun _ => M_X6_next t)) (fun v30 => Mo.bind (nw 9 12 [.long 0, .int 0, .int 0, .int 0, .int 0, .null, .null, .null, .int 0, .int 0, .int 0, .int 0]) (fun q31 => Mo.bind (M_X11_init q31 v7 v11 v14 v15 v25) (fun v32 => Mo.bind (Mo.bind (chk [5] t) (fun _ => M_X6_number t 0 3)) (fun w => Mo.cs w (fun b => Mo.pure (Sum.inl b)) (fun v33 => Mo.bind (pF [9] q31 8 (.int v33)) (fun _ => Mo.bind (gI [9] q31 8) (fun v34 => Mo.bind (M_X1_one v34) (fun v35 => Mo.bind (pF [9] q31 9 (.int v35)) (fun _ => Mo.loop (S := Unit) (fun s36 => Mo.bind (Mo.bind (chk [5] t) (fun _ => M_X6_is t 28)) (fun v39 => cond v39 (Mo.bind (Mo.bind (chk [5] t) (fun _ => M_X6_next t)) (fun v81 => Mo.bind (gI [5] t 3) (fun v82 => Mo.bind ((if v82 = 2 then Mo.pure true else Mo.pure false : Mo (Bool))) (fun u83 => Mo.bind (Mo.bind (chk [5] t) (fun _ => M_X6_must t u83 1)) (fun w => Mo.cs w (fun b => Mo.pure (Sum.inr (Sum.inl b))) (fun v84 => Mo.bind (gI [5] t 4) (fun v85 => Mo.bind ((if 4 ≤ v85 then Mo.pure false else Mo.pure true : Mo (Bool))) (fun u86 => Mo.bind (Mo.bind (chk [5] t) (fun _ => M_X6_must t u86 2)) (fun w => Mo.cs w (fun b => Mo.pure (Sum.inr (Sum.inl b))) (fun v87 => Mo.bind (gI [9] q31 9) (fun v88 => Mo.bind (gI [5] t 4) (fun v89 => Mo.bind (M_X1_has v88 v89) (fun v90 => Mo.bind ((cond v90 (Mo.pure false) (Mo.pure true) : Mo (Bool))) (fun u91 => Mo.bind (Mo.bind (chk [5] t) (fun _ => M_X6_must t u91 3)) (fun w => Mo.cs w (fun b => Mo.pure (Sum.inr (Sum.inl b))) (fun v92 => Mo.bind (gI [9] q31 9) (fun v93 => Mo.bind (gI [5] t 4) (fun v94 => Mo.bind (M_X1_one v94) (fun v95 => Mo.bind (pF [9] q31 9 (.int (v93 ||| v95))) (fun _ => Mo.bind (Mo.bind (chk [5] t) (fun _ => M_X6_next t)) (fun v96 => Mo.pure (Sum.inl ())))))))))))))))))))))) (Mo.bind (Mo.bind (chk [5] t) (fun _ => M_X6_is t 29)) (fun v40 => cond v40 (Mo.bind (Mo.bind (chk [5] t) (fun _ => M_X6_next t)) (fun v60 => Mo.bind (Mo.bind (chk [5] t) (fun _ => M_X6_number t 1 99)) (fun w => Mo.cs w (fun b => Mo.pure (Sum.inr (Sum.inl b))) (fun v61 => Mo.bind (pF [9] q31 10 (.int v61)) (fun _ => Mo.bind (Mo.bind (chk [5] t) (fun _ => M_X6_is t 30)) (fun v62 => Mo.bind ((cond v62 (Mo.bind (pF [9] q31 11 (.int (b2i true))) (fun _ => Mo.bind (Mo.bind (chk [5] t) (fun _ => M_X6_next t)) (fun v80 => Mo.pure ()))) (Mo.pure ()) : Mo (Unit))) (fun u63 => Mo.bind (Mo.loop (S := Int32) (E := Unit) (fun s64 => if v25 ≤ s64 then Mo.pure (Sum.inr ()) else Mo.bind (gR [5] t 8) (fun v68 => Mo.bind (gR [3] v68 0) (fun v69 => Mo.bind ((cond v15 (Mo.pure ((10 * (v14 + s64)) + v11)) (Mo.pure (((10 * v14) + v11) + s64)) : Mo (Int32))) (fun u70 => Mo.bind (gR [5] t 8) (fun v71 => Mo.bind (gI [3] v71 6) (fun v72 => Mo.bind (astI 0 v69 u70 (10 + v72)) (fun _ => Mo.lv (s64 + 1) (fun v73 => Mo.pure (Sum.inl v73))))))))) 0) (fun e67 => Mo.bind (gR [5] t 8) (fun v74 => Mo.bind (gR [3] v74 2) (fun v75 => Mo.bind (gR [5] t 8) (fun v76 => Mo.bind (gI [3] v76 6) (fun v77 => Mo.bind (astN 5 v75 [9] v77 (some q31)) (fun _ => Mo.bind (gR [5] t 8) (fun v78 => Mo.bind (gI [3] v78 6) (fun v79 => Mo.bind (pF [3] v78 6 (.int (v79 + 1))) (fun _ => Mo.pure (Sum.inr (Sum.inr ())))))))))))))))))) (Mo.bind (Mo.bind (chk [5] t) (fun _ => M_X6_is t 30)) (fun v41 => Mo.bind ((cond v41 (Mo.bind (pF [9] q31 11 (.int (b2i true))) (fun _ => Mo.bind (Mo.bind (chk [5] t) (fun _ => M_X6_next t)) (fun v59 => Mo.pure ()))) (Mo.pure ()) : Mo (Unit))) (fun u42 => Mo.bind (Mo.loop (S := Int32) (E := Unit) (fun s43 => if v25 ≤ s43 then Mo.pure (Sum.inr ()) else Mo.bind (gR [5] t 8) (fun v47 => Mo.bind (gR [3] v47 0) (fun v48 => Mo.bind ((cond v15 (Mo.pure ((10 * (v14 + s43)) + v11)) (Mo.pure (((10 * v14) + v11) + s43)) : Mo (Int32))) (fun u49 => Mo.bind (gR [5] t 8) (fun v50 => Mo.bind (gI [3] v50 6) (fun v51 => Mo.bind (astI 0 v48 u49 (10 + v51)) (fun _ => Mo.lv (s43 + 1) (fun v52 => Mo.pure (Sum.inl v52))))))))) 0) (fun e46 => Mo.bind (gR [5] t 8) (fun v53 => Mo.bind (gR [3] v53 2) (fun v54 => Mo.bind (gR [5] t 8) (fun v55 => Mo.bind (gI [3] v55 6) (fun v56 => Mo.bind (astN 5 v54 [9] v56 (some q31)) (fun _ => Mo.bind (gR [5] t 8) (fun v57 => Mo.bind (gI [3] v57 6) (fun v58 => Mo.bind (pF [3] v57 6 (.int (v58 + 1))) (fun _ => Mo.pure (Sum.inr (Sum.inr ())))))))))))))))))) ()))))))))))))))))))))))))))))))))))))))))))))))))
set_option maxHeartbeats 4000000 in
theorem ct_X7_door (G : gG) (t : Nat) : gCx G yX7_door cX7_door 9 none 7 149 [.ref t] (M_X7_door t) (fun _ : Unit => none) := by
  refine gCx.of (by decide) (Nat.le_of_ble_eq_true rfl) (fun K r hG X hex hd ho => ?_)
  subst hG
  have X : gX K cX7_door 9 "BitingDoors$HouseReader" "door" none 7 149 := X
  have hle : gLe (kh1 K) (kh1 K) := gLe.rf
  show V K 9 (kh0 K) 0 [(0, .ref t)] []
  generalize kh0 K = h at hd ⊢
  unfold M_X7_door at hd
  obtain ⟨-, hd⟩ := chk_some hd
  refine v_aload_n X dX7_door_0 0 0 rfl rfl ?_
  refine v_aload_n X dX7_door_1 0 0 rfl rfl ?_
  refine v_callU X hd hle (ct_X6_isName _ t) hu_X7_101 rfl dn_X6_isName rfl ⟨by decide, by decide⟩ rfl (Nat.le_of_ble_eq_true rfl) dX7_door_2 (fun v1 h hd => ?_)
  show V K 9 h 5 [(0, .ref t)] [.int (b2i v1), .ref t]
  refine v_iconst (v := 1) X dX7_door_5 (by decide) ?_
  refine v_callUX X hd hle (ct_X6_must _ t v1 1) hu_X7_35 rfl dn_X6_must rfl q116 q764 ⟨by decide, by decide⟩ rfl (Nat.le_of_ble_eq_true rfl) dX7_door_6 (fun v2 h hd => ?_) (fun b h hd => ?_)
  · show V K 9 h 9 [(0, .ref t)] []
    have hd := cs_r hd
    refine v_aload_n X dX7_door_9 0 0 rfl rfl ?_
    refine v_aload_n X dX7_door_10 0 0 rfl rfl ?_
    refine v_aload_n X dX7_door_11 0 0 rfl rfl ?_
    refine v_getR X hd fl_X7_15 dX7_door_12 (fun v3 hd => ?_)
    refine v_callU X hd hle (ct_X6_of _ t v3) hu_X7_104 rfl dn_X6_of rfl ⟨by decide, by decide⟩ rfl (Nat.le_of_ble_eq_true rfl) dX7_door_15 (fun v4 h hd => ?_)
    show V K 9 h 18 [(0, .ref t)] [.int v4, .ref t]
    refine v_iconst (v := (-1)) X dX7_door_18 (by decide) ?_
    obtain ⟨u5, h1, hd, hd2⟩ := Mo.bind_some hd
    have KJ : V K 9 h1 27 [(0, .ref t)] [.int (b2i u5), .ref t] := by
      clear hd
      have hd := hd2
      refine v_iconst (v := 3) X dX7_door_27 (by decide) ?_
      refine v_callUX X hd hle (ct_X6_must _ t u5 3) hu_X7_35 rfl dn_X6_must rfl q116 q764 ⟨by decide, by decide⟩ rfl (Nat.le_of_ble_eq_true rfl) dX7_door_28 (fun v6 h hd => ?_) (fun b h hd => ?_)
      · show V K 9 h 31 [(0, .ref t)] []
        have hd := cs_r hd
        refine v_aload_n X dX7_door_31 0 0 rfl rfl ?_
        refine v_getL X hd fl_X7_108 dX7_door_32 (fun v7 hd => ?_)
        refine v_lstore_n (lv2 := [(1, .long v7), (0, .ref t)]) X dX7_door_35 1 rfl (by decide) rfl ?_
        refine v_aload_n X dX7_door_36 1 0 rfl rfl ?_
        refine v_callU X hd hle (ct_X6_next _ t) hu_X7_53 rfl dn_X6_next rfl ⟨by decide, by decide⟩ rfl (Nat.le_of_ble_eq_true rfl) dX7_door_37 (fun v8 h hd => ?_)
        show V K 9 h 40 [(1, .long v7), (0, .ref t)] []
        refine v_aload_n X dX7_door_40 1 0 rfl rfl ?_
        refine v_iconst (v := 0) X dX7_door_41 (by decide) ?_
        refine v_aload_n X dX7_door_42 1 0 rfl rfl ?_
        refine v_getR X hd fl_X7_15 dX7_door_43 (fun v9 hd => ?_)
        refine v_getI X hd fl_X7_75 dX7_door_46 (fun v10 hd => ?_)
        refine v_iconst (v := 1) X dX7_door_49 (by decide) ?_
        refine v_isub X dX7_door_50 ?_
        refine v_callUX X hd hle (ct_X6_number _ t 0 (v10 - 1)) hu_X7_78 rfl dn_X6_number rfl q116 q813 ⟨by decide, by decide⟩ rfl (Nat.le_of_ble_eq_true rfl) dX7_door_51 (fun v11 h hd => ?_) (fun b h hd => ?_)
        · show V K 9 h 54 [(1, .long v7), (0, .ref t)] [.int v11]
          have hd := cs_r hd
          refine v_istore_n (lv2 := [(3, .int v11), (1, .long v7), (0, .ref t)]) X dX7_door_54 3 rfl (by decide) rfl ?_
          refine v_aload_n X dX7_door_55 2 0 rfl rfl ?_
          refine v_iconst (v := 0) X dX7_door_56 (by decide) ?_
          refine v_aload_n X dX7_door_57 2 0 rfl rfl ?_
          refine v_getR X hd fl_X7_15 dX7_door_58 (fun v12 hd => ?_)
          refine v_getI X hd fl_X7_44 dX7_door_61 (fun v13 hd => ?_)
          refine v_iconst (v := 1) X dX7_door_64 (by decide) ?_
          refine v_isub X dX7_door_65 ?_
          refine v_callUX X hd hle (ct_X6_number _ t 0 (v13 - 1)) hu_X7_78 rfl dn_X6_number rfl q116 q813 ⟨by decide, by decide⟩ rfl (Nat.le_of_ble_eq_true rfl) dX7_door_66 (fun v14 h hd => ?_) (fun b h hd => ?_)
          · show V K 9 h 69 [(3, .int v11), (1, .long v7), (0, .ref t)] [.int v14]
            have hd := cs_r hd
            refine v_istore (lv2 := [(4, .int v14), (3, .int v11), (1, .long v7), (0, .ref t)]) X dX7_door_69 (by decide) rfl ?_
            refine v_aload_n X dX7_door_71 3 0 rfl rfl ?_
            refine v_ldcS X 26 (by decide) rfl dX7_door_72 ?_
            refine v_callU X hd hle (ct_X6_is _ t 26) hu_X7_114 rfl dn_X6_is rfl ⟨by decide, by decide⟩ rfl (Nat.le_of_ble_eq_true rfl) dX7_door_74 (fun v15 h hd => ?_)
            show V K 9 h 77 [(4, .int v14), (3, .int v11), (1, .long v7), (0, .ref t)] [.int (b2i v15)]
            refine v_istore (lv2 := [(5, .int (b2i v15)), (4, .int v14), (3, .int v11), (1, .long v7), (0, .ref t)]) X dX7_door_77 (by decide) rfl ?_
            refine v_aload_n X dX7_door_79 4 0 rfl rfl ?_
            refine v_iload X dX7_door_80 0 rfl ?_
            obtain ⟨u16, h1, hd, hd2⟩ := Mo.bind_some hd
            have KJ : V K 9 h1 99 [(0, .ref t), (1, .long v7), (3, .int v11), (4, .int v14), (5, .int (b2i v15))] [.int (b2i u16), .ref t] := by
              clear hd
              have hd := hd2
              refine v_iconst (v := 1) X dX7_door_99 (by decide) ?_
              refine v_callUX X hd hle (ct_X6_must _ t u16 1) hu_X7_35 rfl dn_X6_must rfl q116 q764 ⟨by decide, by decide⟩ rfl (Nat.le_of_ble_eq_true rfl) dX7_door_100 (fun v17 h hd => ?_) (fun b h hd => ?_)
              · show V K 9 h 103 [(0, .ref t), (1, .long v7), (3, .int v11), (4, .int v14), (5, .int (b2i v15))] []
                have hd := cs_r hd
                refine v_aload_n X dX7_door_103 0 0 rfl rfl ?_
                refine v_callU X hd hle (ct_X6_next _ t) hu_X7_53 rfl dn_X6_next rfl ⟨by decide, by decide⟩ rfl (Nat.le_of_ble_eq_true rfl) dX7_door_104 (fun v18 h hd => ?_)
                show V K 9 h 107 [(0, .ref t), (1, .long v7), (3, .int v11), (4, .int v14), (5, .int (b2i v15))] []
                refine v_aload_n X dX7_door_107 0 0 rfl rfl ?_
                refine v_aload_n X dX7_door_108 0 0 rfl rfl ?_
                refine v_getI X hd fl_X7_23 dX7_door_109 (fun v19 hd => ?_)
                refine v_iconst (v := 2) X dX7_door_112 (by decide) ?_
                obtain ⟨u20, h1, hd, hd2⟩ := Mo.bind_some hd
                have KJ : V K 9 h1 121 [(0, .ref t), (1, .long v7), (3, .int v11), (4, .int v14), (5, .int (b2i v15))] [.int (b2i u20), .ref t] := by
                  clear hd
                  have hd := hd2
                  refine v_iconst (v := 1) X dX7_door_121 (by decide) ?_
                  refine v_callUX X hd hle (ct_X6_must _ t u20 1) hu_X7_35 rfl dn_X6_must rfl q116 q764 ⟨by decide, by decide⟩ rfl (Nat.le_of_ble_eq_true rfl) dX7_door_122 (fun v21 h hd => ?_) (fun b h hd => ?_)
                  · show V K 9 h 125 [(0, .ref t), (1, .long v7), (3, .int v11), (4, .int v14), (5, .int (b2i v15))] []
                    have hd := cs_r hd
                    refine v_aload_n X dX7_door_125 0 0 rfl rfl ?_
                    refine v_aload_n X dX7_door_126 0 0 rfl rfl ?_
                    refine v_getI X hd fl_X7_82 dX7_door_127 (fun v22 hd => ?_)
                    refine v_iconst (v := 1) X dX7_door_130 (by decide) ?_
                    refine v_iconst (v := 3) X dX7_door_131 (by decide) ?_
                    refine v_callSN (host := "BitingDoors") X hd hle (ct_X1_isIn _ v22 1 3) (List.mem_of_getElem? (i := 7) rfl) q689 q688 q109 dn_X1_isIn rfl ⟨by decide, by decide⟩ rfl (Nat.le_of_ble_eq_true rfl) dX7_door_132 (fun v23 h hd => ?_)
                    show V K 9 h 135 [(0, .ref t), (1, .long v7), (3, .int v11), (4, .int v14), (5, .int (b2i v15))] [.int (b2i v23), .ref t]
                    refine v_iconst (v := 2) X dX7_door_135 (by decide) ?_
                    refine v_callUX X hd hle (ct_X6_must _ t v23 2) hu_X7_35 rfl dn_X6_must rfl q116 q764 ⟨by decide, by decide⟩ rfl (Nat.le_of_ble_eq_true rfl) dX7_door_136 (fun v24 h hd => ?_) (fun b h hd => ?_)
                    · show V K 9 h 139 [(0, .ref t), (1, .long v7), (3, .int v11), (4, .int v14), (5, .int (b2i v15))] []
                      have hd := cs_r hd
                      refine v_aload_n X dX7_door_139 0 0 rfl rfl ?_
                      refine v_getI X hd fl_X7_82 dX7_door_140 (fun v25 hd => ?_)
                      refine v_istore (lv2 := [(6, .int v25), (0, .ref t), (1, .long v7), (3, .int v11), (4, .int v14), (5, .int (b2i v15))]) X dX7_door_143 (by decide) rfl ?_
                      refine v_aload_n X dX7_door_145 1 0 rfl rfl ?_
                      refine v_aload_n X dX7_door_146 1 0 rfl rfl ?_
                      refine v_iload_n X dX7_door_147 3 3 rfl rfl ?_
                      refine v_iload X dX7_door_148 4 rfl ?_
                      refine v_iload X dX7_door_150 5 rfl ?_
                      refine v_iload X dX7_door_152 0 rfl ?_
                      refine v_iconst (v := 0) X dX7_door_154 (by decide) ?_
                      refine v_callV X hd hle (ct_X7_isWay _ t v11 v14 v15 v25 false) gCl_X7 (lw_V q822 q824 qs6 q117 q825) ⟨rfl, dn_X7_isWay⟩ rfl ⟨by decide, by decide⟩ rfl (Nat.le_of_ble_eq_true rfl) dX7_door_155 (fun v26 h hd => ?_)
                      show V K 9 h 158 [(6, .int v25), (0, .ref t), (1, .long v7), (3, .int v11), (4, .int v14), (5, .int (b2i v15))] [.int (b2i v26), .ref t]
                      refine v_iconst (v := 2) X dX7_door_158 (by decide) ?_
                      refine v_callUX X hd hle (ct_X6_must _ t v26 2) hu_X7_35 rfl dn_X6_must rfl q116 q764 ⟨by decide, by decide⟩ rfl (Nat.le_of_ble_eq_true rfl) dX7_door_159 (fun v27 h hd => ?_) (fun b h hd => ?_)
                      · show V K 9 h 162 [(6, .int v25), (0, .ref t), (1, .long v7), (3, .int v11), (4, .int v14), (5, .int (b2i v15))] []
                        have hd := cs_r hd
                        refine v_aload_n X dX7_door_162 1 0 rfl rfl ?_
                        refine v_aload_n X dX7_door_163 1 0 rfl rfl ?_
                        refine v_iload_n X dX7_door_164 3 3 rfl rfl ?_
                        refine v_iload X dX7_door_165 4 rfl ?_
                        refine v_iload X dX7_door_167 5 rfl ?_
                        refine v_iload X dX7_door_169 0 rfl ?_
                        refine v_iconst (v := 1) X dX7_door_171 (by decide) ?_
                        refine v_callV X hd hle (ct_X7_isWay _ t v11 v14 v15 v25 true) gCl_X7 (lw_V q822 q824 qs6 q117 q825) ⟨rfl, dn_X7_isWay⟩ rfl ⟨by decide, by decide⟩ rfl (Nat.le_of_ble_eq_true rfl) dX7_door_172 (fun v28 h hd => ?_)
                        show V K 9 h 175 [(6, .int v25), (0, .ref t), (1, .long v7), (3, .int v11), (4, .int v14), (5, .int (b2i v15))] [.int (b2i v28), .ref t]
                        refine v_iconst (v := 3) X dX7_door_175 (by decide) ?_
                        refine v_callUX X hd hle (ct_X6_must _ t v28 3) hu_X7_35 rfl dn_X6_must rfl q116 q764 ⟨by decide, by decide⟩ rfl (Nat.le_of_ble_eq_true rfl) dX7_door_176 (fun v29 h hd => ?_) (fun b h hd => ?_)
                        · show V K 9 h 179 [(6, .int v25), (0, .ref t), (1, .long v7), (3, .int v11), (4, .int v14), (5, .int (b2i v15))] []
                          have hd := cs_r hd
                          refine v_aload_n X dX7_door_179 1 0 rfl rfl ?_
                          refine v_callU X hd hle (ct_X6_next _ t) hu_X7_53 rfl dn_X6_next rfl ⟨by decide, by decide⟩ rfl (Nat.le_of_ble_eq_true rfl) dX7_door_180 (fun v30 h hd => ?_)
                          show V K 9 h 183 [(6, .int v25), (0, .ref t), (1, .long v7), (3, .int v11), (4, .int v14), (5, .int (b2i v15))] []
                          refine v_new X hd hle nw_X7_128 dX7_door_183 (fun q31 h hd => ?_)
                          refine v_dup X dX7_door_186 rfl ?_
                          refine v_lload_n X dX7_door_187 2 1 rfl rfl ?_
                          refine v_iload_n X dX7_door_188 3 3 rfl rfl ?_
                          refine v_iload X dX7_door_189 4 rfl ?_
                          refine v_iload X dX7_door_191 5 rfl ?_
                          refine v_iload X dX7_door_193 0 rfl ?_
                          refine v_callI X hd hle (ct_X11_init _ q31 v7 v11 v14 v15 v25) q835 q125 q833 q834 rfl dn_X11_init rfl ⟨by decide, by decide⟩ rfl (Nat.le_of_ble_eq_true rfl) dX7_door_195 (fun v32 h hd => ?_)
                          show V K 9 h 198 [(6, .int v25), (0, .ref t), (1, .long v7), (3, .int v11), (4, .int v14), (5, .int (b2i v15))] [.ref q31]
                          refine v_astore (lv2 := [(7, .ref q31), (6, .int v25), (0, .ref t), (1, .long v7), (3, .int v11), (4, .int v14), (5, .int (b2i v15))]) X dX7_door_198 (by decide) rfl ?_
                          refine v_aload X dX7_door_200 0 rfl ?_
                          refine v_aload_n X dX7_door_202 2 0 rfl rfl ?_
                          refine v_iconst (v := 0) X dX7_door_203 (by decide) ?_
                          refine v_iconst (v := 3) X dX7_door_204 (by decide) ?_
                          refine v_callUX X hd hle (ct_X6_number _ t 0 3) hu_X7_78 rfl dn_X6_number rfl q116 q813 ⟨by decide, by decide⟩ rfl (Nat.le_of_ble_eq_true rfl) dX7_door_205 (fun v33 h hd => ?_) (fun b h hd => ?_)
                          · show V K 9 h 208 [(7, .ref q31), (6, .int v25), (0, .ref t), (1, .long v7), (3, .int v11), (4, .int v14), (5, .int (b2i v15))] [.int v33, .ref q31]
                            have hd := cs_r hd
                            refine v_put (v := .int v33) X hd fp_X7_133 rfl rfl dX7_door_208 (fun h hd => ?_)
                            refine v_aload X dX7_door_211 0 rfl ?_
                            refine v_aload X dX7_door_213 0 rfl ?_
                            refine v_getI X hd fl_X7_133 dX7_door_215 (fun v34 hd => ?_)
                            refine v_callSN (host := "BitingDoors") X hd hle (ct_X1_one _ v34) (List.mem_of_getElem? (i := 8) rfl) q896 q895 q109 dn_X1_one rfl ⟨by decide, by decide⟩ rfl (Nat.le_of_ble_eq_true rfl) dX7_door_218 (fun v35 h hd => ?_)
                            show V K 9 h 221 [(7, .ref q31), (6, .int v25), (0, .ref t), (1, .long v7), (3, .int v11), (4, .int v14), (5, .int (b2i v15))] [.int v35, .ref q31]
                            refine v_put (v := .int v35) X hd fp_X7_140 rfl rfl dX7_door_221 (fun h hd => ?_)
                            refine v_loc [2, 4, 5, 6, 1, 0] rfl ?_
                            refine loop_ind hd (fun (s36 : Unit) h => V K 9 h 224 [(0, .ref t), (3, .int v11), (4, .int v14), (5, .int (b2i v15)), (6, .int v25), (7, .ref q31)] []) (fun s36 h x h2 hd hle0 ih37 ho38 => ?_)
                            have hle := hle0.tr hle
                            refine v_aload_n X dX7_door_224 0 0 rfl rfl ?_
                            refine v_ldcS X 28 (by decide) rfl dX7_door_225 ?_
                            refine v_callU X hd hle (ct_X6_is _ t 28) hu_X7_114 rfl dn_X6_is rfl ⟨by decide, by decide⟩ rfl (Nat.le_of_ble_eq_true rfl) dX7_door_227 (fun v39 h hd => ?_)
                            show V K 9 h 230 [(0, .ref t), (3, .int v11), (4, .int v14), (5, .int (b2i v15)), (6, .int v25), (7, .ref q31)] [.int (b2i v39)]
                            refine v_ifZ_eq (tgt := 322) X dX7_door_230 (by decide) (fun q => ?_) (fun q => ?_)
                            · have hd := cnd_f q hd
                              refine v_aload_n X dX7_door_322 0 0 rfl rfl ?_
                              refine v_ldcS X 29 (by decide) rfl dX7_door_323 ?_
                              refine v_callU X hd hle (ct_X6_is _ t 29) hu_X7_114 rfl dn_X6_is rfl ⟨by decide, by decide⟩ rfl (Nat.le_of_ble_eq_true rfl) dX7_door_325 (fun v40 h hd => ?_)
                              show V K 9 h 328 [(0, .ref t), (3, .int v11), (4, .int v14), (5, .int (b2i v15)), (6, .int v25), (7, .ref q31)] [.int (b2i v40)]
                              refine v_ifZ_eq (tgt := 347) X dX7_door_328 (by decide) (fun q => ?_) (fun q => ?_)
                              · have hd := cnd_f q hd
                                refine v_aload_n X dX7_door_347 0 0 rfl rfl ?_
                                refine v_ldcS X 30 (by decide) rfl dX7_door_348 ?_
                                refine v_callU X hd hle (ct_X6_is _ t 30) hu_X7_114 rfl dn_X6_is rfl ⟨by decide, by decide⟩ rfl (Nat.le_of_ble_eq_true rfl) dX7_door_350 (fun v41 h hd => ?_)
                                show V K 9 h 353 [(0, .ref t), (3, .int v11), (4, .int v14), (5, .int (b2i v15)), (6, .int v25), (7, .ref q31)] [.int (b2i v41)]
                                obtain ⟨u42, h1, hd, hd2⟩ := Mo.bind_some hd
                                have KJ : V K 9 h1 366 [(0, .ref t), (3, .int v11), (4, .int v14), (5, .int (b2i v15)), (6, .int v25), (7, .ref q31)] [] := by
                                  clear hd
                                  have hd := hd2
                                  refine v_iconst (v := 0) X dX7_door_366 (by decide) ?_
                                  refine v_istore (lv2 := [(8, .int 0), (0, .ref t), (3, .int v11), (4, .int v14), (5, .int (b2i v15)), (6, .int v25), (7, .ref q31)]) X dX7_door_367 (by decide) rfl ?_
                                  obtain ⟨e46, h1, hd, hd2⟩ := Mo.bind_some hd
                                  have KX : V K 9 h1 428 [(0, .ref t), (7, .ref q31)] [] := by
                                    clear hd
                                    have hd := hd2
                                    refine v_aload_n X dX7_door_428 0 0 rfl rfl ?_
                                    refine v_getR X hd fl_X7_15 dX7_door_429 (fun v53 hd => ?_)
                                    refine v_getR X hd fl_X7_158 dX7_door_432 (fun v54 hd => ?_)
                                    refine v_aload_n X dX7_door_435 0 0 rfl rfl ?_
                                    refine v_getR X hd fl_X7_15 dX7_door_436 (fun v55 hd => ?_)
                                    refine v_getI X hd fl_X7_47 dX7_door_439 (fun v56 hd => ?_)
                                    refine v_aload X dX7_door_442 1 rfl ?_
                                    refine v_astN (x := (some q31)) X hd 5 rfl (by decide) (by decide) gca_5 dX7_door_444 (fun h hd => ?_)
                                    refine v_aload_n X dX7_door_445 0 0 rfl rfl ?_
                                    refine v_getR X hd fl_X7_15 dX7_door_446 (fun v57 hd => ?_)
                                    refine v_dup X dX7_door_449 rfl ?_
                                    refine v_getI X hd fl_X7_47 dX7_door_450 (fun v58 hd => ?_)
                                    refine v_iconst (v := 1) X dX7_door_453 (by decide) ?_
                                    refine v_iadd X dX7_door_454 ?_
                                    refine v_put (v := .int (v58 + 1)) X hd fp_X7_47 rfl rfl dX7_door_455 (fun h hd => ?_)
                                    have hd := lp_out hd ho38
                                    obtain ⟨rfl, hx⟩ := px_inr hd
                                    exact v_vret X hx ho dX7_door_458
                                  have hle := (Mo.le hd2).tr hle
                                  clear hd2
                                  refine v_loc [1, 2, 3, 4, 5, 6, 0] rfl ?_
                                  refine loop_ind hd (fun (s43 : Int32) h => V K 9 h 369 [(0, .ref t), (3, .int v11), (4, .int v14), (5, .int (b2i v15)), (6, .int v25), (7, .ref q31), (8, .int s43)] []) (fun s43 h x h2 hd hle0 ih44 ho45 => ?_)
                                  have hle := hle0.tr hle
                                  refine v_iload X dX7_door_369 6 rfl ?_
                                  refine v_iload X dX7_door_371 4 rfl ?_
                                  refine v_icmp_ge (tgt := 428) X dX7_door_373 (by decide) (fun q => ?_) (fun q => ?_)
                                  · have hd := ite_t q hd
                                    exact v_loc [0, 5] rfl (v_at (P := fun (e46 : Unit) h => V K 9 h 428 [(0, .ref t), (7, .ref q31)] []) (lp_out hd ho45) KX)
                                  · have hd := ite_f q hd
                                    refine v_aload_n X dX7_door_376 0 0 rfl rfl ?_
                                    refine v_getR X hd fl_X7_15 dX7_door_377 (fun v47 hd => ?_)
                                    refine v_getR X hd fl_X7_85 dX7_door_380 (fun v48 hd => ?_)
                                    refine v_iload X dX7_door_383 3 rfl ?_
                                    obtain ⟨u49, h1, hd, hd2⟩ := Mo.bind_some hd
                                    have KJ : V K 9 h1 411 [(0, .ref t), (3, .int v11), (4, .int v14), (5, .int (b2i v15)), (6, .int v25), (7, .ref q31), (8, .int s43)] [.int u49, .ref v48] := by
                                      clear hd
                                      have hd := hd2
                                      refine v_bipush (v := 10) X dX7_door_411 (by decide) ?_
                                      refine v_aload_n X dX7_door_413 0 0 rfl rfl ?_
                                      refine v_getR X hd fl_X7_15 dX7_door_414 (fun v50 hd => ?_)
                                      refine v_getI X hd fl_X7_47 dX7_door_417 (fun v51 hd => ?_)
                                      refine v_iadd X dX7_door_420 ?_
                                      refine v_iast X hd dX7_door_421 (fun h hd => ?_)
                                      refine v_iincL (lv2 := fun v52 => [(8, .int v52), (0, .ref t), (3, .int v11), (4, .int v14), (5, .int (b2i v15)), (6, .int v25), (7, .ref q31)]) X hd dX7_door_422 6 rfl (by decide : Int32.ofInt 1 = 1) (by decide) (fun v52 => rfl) (fun v52 hd => ?_)
                                      refine v_goto (tgt := 369) X dX7_door_425 (by decide) ?_
                                      exact v_loc [1, 2, 3, 4, 5, 6, 0] rfl (lp_in (P := fun (s43 : Int32) h => V K 9 h 369 [(0, .ref t), (3, .int v11), (4, .int v14), (5, .int (b2i v15)), (6, .int v25), (7, .ref q31), (8, .int s43)] []) hd ih44)
                                    have hle := (Mo.le hd2).tr hle
                                    clear hd2
                                    refine v_ifZ_eq (tgt := 401) X dX7_door_385 (by decide) (fun q => ?_) (fun q => ?_)
                                    · have hd := cnd_f q hd
                                      refine v_bipush (v := 10) X dX7_door_401 (by decide) ?_
                                      refine v_iload X dX7_door_403 2 rfl ?_
                                      refine v_imul X dX7_door_405 ?_
                                      refine v_iload_n X dX7_door_406 1 3 rfl rfl ?_
                                      refine v_iadd X dX7_door_407 ?_
                                      refine v_iload X dX7_door_408 6 rfl ?_
                                      refine v_iadd X dX7_door_410 ?_
                                      exact v_loc [0, 1, 2, 3, 4, 5, 6] rfl (v_at (P := fun (u49 : Int32) h => V K 9 h 411 [(0, .ref t), (3, .int v11), (4, .int v14), (5, .int (b2i v15)), (6, .int v25), (7, .ref q31), (8, .int s43)] [.int u49, .ref v48]) hd KJ)
                                    · have hd := cnd_t q hd
                                      refine v_bipush (v := 10) X dX7_door_388 (by decide) ?_
                                      refine v_iload X dX7_door_390 2 rfl ?_
                                      refine v_iload X dX7_door_392 6 rfl ?_
                                      refine v_iadd X dX7_door_394 ?_
                                      refine v_imul X dX7_door_395 ?_
                                      refine v_iload_n X dX7_door_396 1 3 rfl rfl ?_
                                      refine v_iadd X dX7_door_397 ?_
                                      refine v_goto (tgt := 411) X dX7_door_398 (by decide) ?_
                                      exact v_loc [0, 1, 2, 3, 4, 5, 6] rfl (v_at (P := fun (u49 : Int32) h => V K 9 h 411 [(0, .ref t), (3, .int v11), (4, .int v14), (5, .int (b2i v15)), (6, .int v25), (7, .ref q31), (8, .int s43)] [.int u49, .ref v48]) hd KJ)
                                have hle := (Mo.le hd2).tr hle
                                clear hd2
                                refine v_ifZ_eq (tgt := 366) X dX7_door_353 (by decide) (fun q => ?_) (fun q => ?_)
                                · have hd := cnd_f q hd
                                  exact v_loc [0, 1, 2, 3, 4, 5] rfl (v_at (P := fun (u42 : Unit) h => V K 9 h 366 [(0, .ref t), (3, .int v11), (4, .int v14), (5, .int (b2i v15)), (6, .int v25), (7, .ref q31)] []) hd KJ)
                                · have hd := cnd_t q hd
                                  refine v_aload X dX7_door_356 5 rfl ?_
                                  refine v_iconst (v := 1) X dX7_door_358 (by decide) ?_
                                  refine v_put (v := .int (b2i true)) X hd fp_X7_155 (b2i_nar _) (fits_b2i _) dX7_door_359 (fun h hd => ?_)
                                  refine v_aload_n X dX7_door_362 0 0 rfl rfl ?_
                                  refine v_callU X hd hle (ct_X6_next _ t) hu_X7_53 rfl dn_X6_next rfl ⟨by decide, by decide⟩ rfl (Nat.le_of_ble_eq_true rfl) dX7_door_363 (fun v59 h hd => ?_)
                                  show V K 9 h 366 [(0, .ref t), (3, .int v11), (4, .int v14), (5, .int (b2i v15)), (6, .int v25), (7, .ref q31)] []
                                  exact v_loc [0, 1, 2, 3, 4, 5] rfl (v_at (P := fun (u42 : Unit) h => V K 9 h 366 [(0, .ref t), (3, .int v11), (4, .int v14), (5, .int (b2i v15)), (6, .int v25), (7, .ref q31)] []) hd KJ)
                              · have hd := cnd_t q hd
                                refine v_aload_n X dX7_door_331 0 0 rfl rfl ?_
                                refine v_callU X hd hle (ct_X6_next _ t) hu_X7_53 rfl dn_X6_next rfl ⟨by decide, by decide⟩ rfl (Nat.le_of_ble_eq_true rfl) dX7_door_332 (fun v60 h hd => ?_)
                                show V K 9 h 335 [(0, .ref t), (3, .int v11), (4, .int v14), (5, .int (b2i v15)), (6, .int v25), (7, .ref q31)] []
                                refine v_aload X dX7_door_335 5 rfl ?_
                                refine v_aload_n X dX7_door_337 0 0 rfl rfl ?_
                                refine v_iconst (v := 1) X dX7_door_338 (by decide) ?_
                                refine v_bipush (v := 99) X dX7_door_339 (by decide) ?_
                                refine v_callUX X hd hle (ct_X6_number _ t 1 99) hu_X7_78 rfl dn_X6_number rfl q116 q813 ⟨by decide, by decide⟩ rfl (Nat.le_of_ble_eq_true rfl) dX7_door_341 (fun v61 h hd => ?_) (fun b h hd => ?_)
                                · show V K 9 h 344 [(0, .ref t), (3, .int v11), (4, .int v14), (5, .int (b2i v15)), (6, .int v25), (7, .ref q31)] [.int v61, .ref q31]
                                  have hd := cs_r hd
                                  refine v_put (v := .int v61) X hd fp_X7_151 rfl rfl dX7_door_344 (fun h hd => ?_)
                                  refine v_aload_n X dX7_door_347 0 0 rfl rfl ?_
                                  refine v_ldcS X 30 (by decide) rfl dX7_door_348 ?_
                                  refine v_callU X hd hle (ct_X6_is _ t 30) hu_X7_114 rfl dn_X6_is rfl ⟨by decide, by decide⟩ rfl (Nat.le_of_ble_eq_true rfl) dX7_door_350 (fun v62 h hd => ?_)
                                  show V K 9 h 353 [(0, .ref t), (3, .int v11), (4, .int v14), (5, .int (b2i v15)), (6, .int v25), (7, .ref q31)] [.int (b2i v62)]
                                  obtain ⟨u63, h1, hd, hd2⟩ := Mo.bind_some hd
                                  have KJ : V K 9 h1 366 [(0, .ref t), (3, .int v11), (4, .int v14), (5, .int (b2i v15)), (6, .int v25), (7, .ref q31)] [] := by
                                    clear hd
                                    have hd := hd2
                                    refine v_iconst (v := 0) X dX7_door_366 (by decide) ?_
                                    refine v_istore (lv2 := [(8, .int 0), (0, .ref t), (3, .int v11), (4, .int v14), (5, .int (b2i v15)), (6, .int v25), (7, .ref q31)]) X dX7_door_367 (by decide) rfl ?_
                                    obtain ⟨e67, h1, hd, hd2⟩ := Mo.bind_some hd
                                    have KX : V K 9 h1 428 [(0, .ref t), (7, .ref q31)] [] := by
                                      clear hd
                                      have hd := hd2
                                      refine v_aload_n X dX7_door_428 0 0 rfl rfl ?_
                                      refine v_getR X hd fl_X7_15 dX7_door_429 (fun v74 hd => ?_)
                                      refine v_getR X hd fl_X7_158 dX7_door_432 (fun v75 hd => ?_)
                                      refine v_aload_n X dX7_door_435 0 0 rfl rfl ?_
                                      refine v_getR X hd fl_X7_15 dX7_door_436 (fun v76 hd => ?_)
                                      refine v_getI X hd fl_X7_47 dX7_door_439 (fun v77 hd => ?_)
                                      refine v_aload X dX7_door_442 1 rfl ?_
                                      refine v_astN (x := (some q31)) X hd 5 rfl (by decide) (by decide) gca_5 dX7_door_444 (fun h hd => ?_)
                                      refine v_aload_n X dX7_door_445 0 0 rfl rfl ?_
                                      refine v_getR X hd fl_X7_15 dX7_door_446 (fun v78 hd => ?_)
                                      refine v_dup X dX7_door_449 rfl ?_
                                      refine v_getI X hd fl_X7_47 dX7_door_450 (fun v79 hd => ?_)
                                      refine v_iconst (v := 1) X dX7_door_453 (by decide) ?_
                                      refine v_iadd X dX7_door_454 ?_
                                      refine v_put (v := .int (v79 + 1)) X hd fp_X7_47 rfl rfl dX7_door_455 (fun h hd => ?_)
                                      have hd := lp_out hd ho38
                                      obtain ⟨rfl, hx⟩ := px_inr hd
                                      exact v_vret X hx ho dX7_door_458
                                    have hle := (Mo.le hd2).tr hle
                                    clear hd2
                                    refine v_loc [1, 2, 3, 4, 5, 6, 0] rfl ?_
                                    refine loop_ind hd (fun (s64 : Int32) h => V K 9 h 369 [(0, .ref t), (3, .int v11), (4, .int v14), (5, .int (b2i v15)), (6, .int v25), (7, .ref q31), (8, .int s64)] []) (fun s64 h x h2 hd hle0 ih65 ho66 => ?_)
                                    have hle := hle0.tr hle
                                    refine v_iload X dX7_door_369 6 rfl ?_
                                    refine v_iload X dX7_door_371 4 rfl ?_
                                    refine v_icmp_ge (tgt := 428) X dX7_door_373 (by decide) (fun q => ?_) (fun q => ?_)
                                    · have hd := ite_t q hd
                                      exact v_loc [0, 5] rfl (v_at (P := fun (e67 : Unit) h => V K 9 h 428 [(0, .ref t), (7, .ref q31)] []) (lp_out hd ho66) KX)
                                    · have hd := ite_f q hd
                                      refine v_aload_n X dX7_door_376 0 0 rfl rfl ?_
                                      refine v_getR X hd fl_X7_15 dX7_door_377 (fun v68 hd => ?_)
                                      refine v_getR X hd fl_X7_85 dX7_door_380 (fun v69 hd => ?_)
                                      refine v_iload X dX7_door_383 3 rfl ?_
                                      obtain ⟨u70, h1, hd, hd2⟩ := Mo.bind_some hd
                                      have KJ : V K 9 h1 411 [(0, .ref t), (3, .int v11), (4, .int v14), (5, .int (b2i v15)), (6, .int v25), (7, .ref q31), (8, .int s64)] [.int u70, .ref v69] := by
                                        clear hd
                                        have hd := hd2
                                        refine v_bipush (v := 10) X dX7_door_411 (by decide) ?_
                                        refine v_aload_n X dX7_door_413 0 0 rfl rfl ?_
                                        refine v_getR X hd fl_X7_15 dX7_door_414 (fun v71 hd => ?_)
                                        refine v_getI X hd fl_X7_47 dX7_door_417 (fun v72 hd => ?_)
                                        refine v_iadd X dX7_door_420 ?_
                                        refine v_iast X hd dX7_door_421 (fun h hd => ?_)
                                        refine v_iincL (lv2 := fun v73 => [(8, .int v73), (0, .ref t), (3, .int v11), (4, .int v14), (5, .int (b2i v15)), (6, .int v25), (7, .ref q31)]) X hd dX7_door_422 6 rfl (by decide : Int32.ofInt 1 = 1) (by decide) (fun v73 => rfl) (fun v73 hd => ?_)
                                        refine v_goto (tgt := 369) X dX7_door_425 (by decide) ?_
                                        exact v_loc [1, 2, 3, 4, 5, 6, 0] rfl (lp_in (P := fun (s64 : Int32) h => V K 9 h 369 [(0, .ref t), (3, .int v11), (4, .int v14), (5, .int (b2i v15)), (6, .int v25), (7, .ref q31), (8, .int s64)] []) hd ih65)
                                      have hle := (Mo.le hd2).tr hle
                                      clear hd2
                                      refine v_ifZ_eq (tgt := 401) X dX7_door_385 (by decide) (fun q => ?_) (fun q => ?_)
                                      · have hd := cnd_f q hd
                                        refine v_bipush (v := 10) X dX7_door_401 (by decide) ?_
                                        refine v_iload X dX7_door_403 2 rfl ?_
                                        refine v_imul X dX7_door_405 ?_
                                        refine v_iload_n X dX7_door_406 1 3 rfl rfl ?_
                                        refine v_iadd X dX7_door_407 ?_
                                        refine v_iload X dX7_door_408 6 rfl ?_
                                        refine v_iadd X dX7_door_410 ?_
                                        exact v_loc [0, 1, 2, 3, 4, 5, 6] rfl (v_at (P := fun (u70 : Int32) h => V K 9 h 411 [(0, .ref t), (3, .int v11), (4, .int v14), (5, .int (b2i v15)), (6, .int v25), (7, .ref q31), (8, .int s64)] [.int u70, .ref v69]) hd KJ)
                                      · have hd := cnd_t q hd
                                        refine v_bipush (v := 10) X dX7_door_388 (by decide) ?_
                                        refine v_iload X dX7_door_390 2 rfl ?_
                                        refine v_iload X dX7_door_392 6 rfl ?_
                                        refine v_iadd X dX7_door_394 ?_
                                        refine v_imul X dX7_door_395 ?_
                                        refine v_iload_n X dX7_door_396 1 3 rfl rfl ?_
                                        refine v_iadd X dX7_door_397 ?_
                                        refine v_goto (tgt := 411) X dX7_door_398 (by decide) ?_
                                        exact v_loc [0, 1, 2, 3, 4, 5, 6] rfl (v_at (P := fun (u70 : Int32) h => V K 9 h 411 [(0, .ref t), (3, .int v11), (4, .int v14), (5, .int (b2i v15)), (6, .int v25), (7, .ref q31), (8, .int s64)] [.int u70, .ref v69]) hd KJ)
                                  have hle := (Mo.le hd2).tr hle
                                  clear hd2
                                  refine v_ifZ_eq (tgt := 366) X dX7_door_353 (by decide) (fun q => ?_) (fun q => ?_)
                                  · have hd := cnd_f q hd
                                    exact v_loc [0, 1, 2, 3, 4, 5] rfl (v_at (P := fun (u63 : Unit) h => V K 9 h 366 [(0, .ref t), (3, .int v11), (4, .int v14), (5, .int (b2i v15)), (6, .int v25), (7, .ref q31)] []) hd KJ)
                                  · have hd := cnd_t q hd
                                    refine v_aload X dX7_door_356 5 rfl ?_
                                    refine v_iconst (v := 1) X dX7_door_358 (by decide) ?_
                                    refine v_put (v := .int (b2i true)) X hd fp_X7_155 (b2i_nar _) (fits_b2i _) dX7_door_359 (fun h hd => ?_)
                                    refine v_aload_n X dX7_door_362 0 0 rfl rfl ?_
                                    refine v_callU X hd hle (ct_X6_next _ t) hu_X7_53 rfl dn_X6_next rfl ⟨by decide, by decide⟩ rfl (Nat.le_of_ble_eq_true rfl) dX7_door_363 (fun v80 h hd => ?_)
                                    show V K 9 h 366 [(0, .ref t), (3, .int v11), (4, .int v14), (5, .int (b2i v15)), (6, .int v25), (7, .ref q31)] []
                                    exact v_loc [0, 1, 2, 3, 4, 5] rfl (v_at (P := fun (u63 : Unit) h => V K 9 h 366 [(0, .ref t), (3, .int v11), (4, .int v14), (5, .int (b2i v15)), (6, .int v25), (7, .ref q31)] []) hd KJ)
                                · have hd := cs_l hd
                                  have hd := lp_out hd ho38
                                  obtain ⟨rfl, hh⟩ := px_inl hd
                                  exact vx_leave X hex ho hh
                            · have hd := cnd_t q hd
                              refine v_aload_n X dX7_door_233 0 0 rfl rfl ?_
                              refine v_callU X hd hle (ct_X6_next _ t) hu_X7_53 rfl dn_X6_next rfl ⟨by decide, by decide⟩ rfl (Nat.le_of_ble_eq_true rfl) dX7_door_234 (fun v81 h hd => ?_)
                              show V K 9 h 237 [(0, .ref t), (3, .int v11), (4, .int v14), (5, .int (b2i v15)), (6, .int v25), (7, .ref q31)] []
                              refine v_aload_n X dX7_door_237 0 0 rfl rfl ?_
                              refine v_aload_n X dX7_door_238 0 0 rfl rfl ?_
                              refine v_getI X hd fl_X7_23 dX7_door_239 (fun v82 hd => ?_)
                              refine v_iconst (v := 2) X dX7_door_242 (by decide) ?_
                              obtain ⟨u83, h1, hd, hd2⟩ := Mo.bind_some hd
                              have KJ : V K 9 h1 251 [(0, .ref t), (3, .int v11), (4, .int v14), (5, .int (b2i v15)), (6, .int v25), (7, .ref q31)] [.int (b2i u83), .ref t] := by
                                clear hd
                                have hd := hd2
                                refine v_iconst (v := 1) X dX7_door_251 (by decide) ?_
                                refine v_callUX X hd hle (ct_X6_must _ t u83 1) hu_X7_35 rfl dn_X6_must rfl q116 q764 ⟨by decide, by decide⟩ rfl (Nat.le_of_ble_eq_true rfl) dX7_door_252 (fun v84 h hd => ?_) (fun b h hd => ?_)
                                · show V K 9 h 255 [(0, .ref t), (3, .int v11), (4, .int v14), (5, .int (b2i v15)), (6, .int v25), (7, .ref q31)] []
                                  have hd := cs_r hd
                                  refine v_aload_n X dX7_door_255 0 0 rfl rfl ?_
                                  refine v_aload_n X dX7_door_256 0 0 rfl rfl ?_
                                  refine v_getI X hd fl_X7_82 dX7_door_257 (fun v85 hd => ?_)
                                  refine v_iconst (v := 4) X dX7_door_260 (by decide) ?_
                                  obtain ⟨u86, h1, hd, hd2⟩ := Mo.bind_some hd
                                  have KJ : V K 9 h1 269 [(0, .ref t), (3, .int v11), (4, .int v14), (5, .int (b2i v15)), (6, .int v25), (7, .ref q31)] [.int (b2i u86), .ref t] := by
                                    clear hd
                                    have hd := hd2
                                    refine v_iconst (v := 2) X dX7_door_269 (by decide) ?_
                                    refine v_callUX X hd hle (ct_X6_must _ t u86 2) hu_X7_35 rfl dn_X6_must rfl q116 q764 ⟨by decide, by decide⟩ rfl (Nat.le_of_ble_eq_true rfl) dX7_door_270 (fun v87 h hd => ?_) (fun b h hd => ?_)
                                    · show V K 9 h 273 [(0, .ref t), (3, .int v11), (4, .int v14), (5, .int (b2i v15)), (6, .int v25), (7, .ref q31)] []
                                      have hd := cs_r hd
                                      refine v_aload_n X dX7_door_273 0 0 rfl rfl ?_
                                      refine v_aload X dX7_door_274 5 rfl ?_
                                      refine v_getI X hd fl_X7_140 dX7_door_276 (fun v88 hd => ?_)
                                      refine v_aload_n X dX7_door_279 0 0 rfl rfl ?_
                                      refine v_getI X hd fl_X7_82 dX7_door_280 (fun v89 hd => ?_)
                                      refine v_callSN (host := "BitingDoors") X hd hle (ct_X1_has _ v88 v89) (List.mem_of_getElem? (i := 9) rfl) q900 q899 q109 dn_X1_has rfl ⟨by decide, by decide⟩ rfl (Nat.le_of_ble_eq_true rfl) dX7_door_283 (fun v90 h hd => ?_)
                                      show V K 9 h 286 [(0, .ref t), (3, .int v11), (4, .int v14), (5, .int (b2i v15)), (6, .int v25), (7, .ref q31)] [.int (b2i v90), .ref t]
                                      obtain ⟨u91, h1, hd, hd2⟩ := Mo.bind_some hd
                                      have KJ : V K 9 h1 294 [(0, .ref t), (3, .int v11), (4, .int v14), (5, .int (b2i v15)), (6, .int v25), (7, .ref q31)] [.int (b2i u91), .ref t] := by
                                        clear hd
                                        have hd := hd2
                                        refine v_iconst (v := 3) X dX7_door_294 (by decide) ?_
                                        refine v_callUX X hd hle (ct_X6_must _ t u91 3) hu_X7_35 rfl dn_X6_must rfl q116 q764 ⟨by decide, by decide⟩ rfl (Nat.le_of_ble_eq_true rfl) dX7_door_295 (fun v92 h hd => ?_) (fun b h hd => ?_)
                                        · show V K 9 h 298 [(0, .ref t), (3, .int v11), (4, .int v14), (5, .int (b2i v15)), (6, .int v25), (7, .ref q31)] []
                                          have hd := cs_r hd
                                          refine v_aload X dX7_door_298 5 rfl ?_
                                          refine v_dup X dX7_door_300 rfl ?_
                                          refine v_getI X hd fl_X7_140 dX7_door_301 (fun v93 hd => ?_)
                                          refine v_aload_n X dX7_door_304 0 0 rfl rfl ?_
                                          refine v_getI X hd fl_X7_82 dX7_door_305 (fun v94 hd => ?_)
                                          refine v_callSN (host := "BitingDoors") X hd hle (ct_X1_one _ v94) (List.mem_of_getElem? (i := 8) rfl) q896 q895 q109 dn_X1_one rfl ⟨by decide, by decide⟩ rfl (Nat.le_of_ble_eq_true rfl) dX7_door_308 (fun v95 h hd => ?_)
                                          show V K 9 h 311 [(0, .ref t), (3, .int v11), (4, .int v14), (5, .int (b2i v15)), (6, .int v25), (7, .ref q31)] [.int v95, .int v93, .ref q31]
                                          refine v_ior X dX7_door_311 ?_
                                          refine v_put (v := .int (v93 ||| v95)) X hd fp_X7_140 rfl rfl dX7_door_312 (fun h hd => ?_)
                                          refine v_aload_n X dX7_door_315 0 0 rfl rfl ?_
                                          refine v_callU X hd hle (ct_X6_next _ t) hu_X7_53 rfl dn_X6_next rfl ⟨by decide, by decide⟩ rfl (Nat.le_of_ble_eq_true rfl) dX7_door_316 (fun v96 h hd => ?_)
                                          show V K 9 h 319 [(0, .ref t), (3, .int v11), (4, .int v14), (5, .int (b2i v15)), (6, .int v25), (7, .ref q31)] []
                                          refine v_goto (tgt := 224) X dX7_door_319 (by decide) ?_
                                          exact v_loc [0, 1, 2, 3, 4, 5] rfl (lp_in (P := fun (s36 : Unit) h => V K 9 h 224 [(0, .ref t), (3, .int v11), (4, .int v14), (5, .int (b2i v15)), (6, .int v25), (7, .ref q31)] []) hd ih37)
                                        · have hd := cs_l hd
                                          have hd := lp_out hd ho38
                                          obtain ⟨rfl, hh⟩ := px_inl hd
                                          exact vx_leave X hex ho hh
                                      have hle := (Mo.le hd2).tr hle
                                      clear hd2
                                      refine v_ifZ_ne (tgt := 293) X dX7_door_286 (by decide) (fun q => ?_) (fun q => ?_)
                                      · have hd := cnd_t q hd
                                        refine v_iconst (v := 0) X dX7_door_293 (by decide) ?_
                                        exact v_loc [0, 1, 2, 3, 4, 5] rfl (v_at (P := fun (u91 : Bool) h => V K 9 h 294 [(0, .ref t), (3, .int v11), (4, .int v14), (5, .int (b2i v15)), (6, .int v25), (7, .ref q31)] [.int (b2i u91), .ref t]) hd KJ)
                                      · have hd := cnd_f q hd
                                        refine v_iconst (v := 1) X dX7_door_289 (by decide) ?_
                                        refine v_goto (tgt := 294) X dX7_door_290 (by decide) ?_
                                        exact v_loc [0, 1, 2, 3, 4, 5] rfl (v_at (P := fun (u91 : Bool) h => V K 9 h 294 [(0, .ref t), (3, .int v11), (4, .int v14), (5, .int (b2i v15)), (6, .int v25), (7, .ref q31)] [.int (b2i u91), .ref t]) hd KJ)
                                    · have hd := cs_l hd
                                      have hd := lp_out hd ho38
                                      obtain ⟨rfl, hh⟩ := px_inl hd
                                      exact vx_leave X hex ho hh
                                  have hle := (Mo.le hd2).tr hle
                                  clear hd2
                                  refine v_icmp_ge (tgt := 268) X dX7_door_261 (by decide) (fun q => ?_) (fun q => ?_)
                                  · have hd := ite_t q hd
                                    refine v_iconst (v := 0) X dX7_door_268 (by decide) ?_
                                    exact v_loc [0, 1, 2, 3, 4, 5] rfl (v_at (P := fun (u86 : Bool) h => V K 9 h 269 [(0, .ref t), (3, .int v11), (4, .int v14), (5, .int (b2i v15)), (6, .int v25), (7, .ref q31)] [.int (b2i u86), .ref t]) hd KJ)
                                  · have hd := ite_f q hd
                                    refine v_iconst (v := 1) X dX7_door_264 (by decide) ?_
                                    refine v_goto (tgt := 269) X dX7_door_265 (by decide) ?_
                                    exact v_loc [0, 1, 2, 3, 4, 5] rfl (v_at (P := fun (u86 : Bool) h => V K 9 h 269 [(0, .ref t), (3, .int v11), (4, .int v14), (5, .int (b2i v15)), (6, .int v25), (7, .ref q31)] [.int (b2i u86), .ref t]) hd KJ)
                                · have hd := cs_l hd
                                  have hd := lp_out hd ho38
                                  obtain ⟨rfl, hh⟩ := px_inl hd
                                  exact vx_leave X hex ho hh
                              have hle := (Mo.le hd2).tr hle
                              clear hd2
                              refine v_icmp_ne (tgt := 250) X dX7_door_243 (by decide) (fun q => ?_) (fun q => ?_)
                              · have hd := ite_f q hd
                                refine v_iconst (v := 0) X dX7_door_250 (by decide) ?_
                                exact v_loc [0, 1, 2, 3, 4, 5] rfl (v_at (P := fun (u83 : Bool) h => V K 9 h 251 [(0, .ref t), (3, .int v11), (4, .int v14), (5, .int (b2i v15)), (6, .int v25), (7, .ref q31)] [.int (b2i u83), .ref t]) hd KJ)
                              · have hd := ite_t q hd
                                refine v_iconst (v := 1) X dX7_door_246 (by decide) ?_
                                refine v_goto (tgt := 251) X dX7_door_247 (by decide) ?_
                                exact v_loc [0, 1, 2, 3, 4, 5] rfl (v_at (P := fun (u83 : Bool) h => V K 9 h 251 [(0, .ref t), (3, .int v11), (4, .int v14), (5, .int (b2i v15)), (6, .int v25), (7, .ref q31)] [.int (b2i u83), .ref t]) hd KJ)
                          · have hd := cs_l hd
                            obtain ⟨rfl, hh⟩ := px_inl hd
                            exact vx_leave X hex ho hh
                        · have hd := cs_l hd
                          obtain ⟨rfl, hh⟩ := px_inl hd
                          exact vx_leave X hex ho hh
                      · have hd := cs_l hd
                        obtain ⟨rfl, hh⟩ := px_inl hd
                        exact vx_leave X hex ho hh
                    · have hd := cs_l hd
                      obtain ⟨rfl, hh⟩ := px_inl hd
                      exact vx_leave X hex ho hh
                  · have hd := cs_l hd
                    obtain ⟨rfl, hh⟩ := px_inl hd
                    exact vx_leave X hex ho hh
                have hle := (Mo.le hd2).tr hle
                clear hd2
                refine v_icmp_ne (tgt := 120) X dX7_door_113 (by decide) (fun q => ?_) (fun q => ?_)
                · have hd := ite_f q hd
                  refine v_iconst (v := 0) X dX7_door_120 (by decide) ?_
                  exact v_loc [0, 1, 2, 3, 4] rfl (v_at (P := fun (u20 : Bool) h => V K 9 h 121 [(0, .ref t), (1, .long v7), (3, .int v11), (4, .int v14), (5, .int (b2i v15))] [.int (b2i u20), .ref t]) hd KJ)
                · have hd := ite_t q hd
                  refine v_iconst (v := 1) X dX7_door_116 (by decide) ?_
                  refine v_goto (tgt := 121) X dX7_door_117 (by decide) ?_
                  exact v_loc [0, 1, 2, 3, 4] rfl (v_at (P := fun (u20 : Bool) h => V K 9 h 121 [(0, .ref t), (1, .long v7), (3, .int v11), (4, .int v14), (5, .int (b2i v15))] [.int (b2i u20), .ref t]) hd KJ)
              · have hd := cs_l hd
                obtain ⟨rfl, hh⟩ := px_inl hd
                exact vx_leave X hex ho hh
            have hle := (Mo.le hd2).tr hle
            clear hd2
            refine v_ifZ_ne (tgt := 94) X dX7_door_82 (by decide) (fun q => ?_) (fun q => ?_)
            · have hd := cnd_t q hd
              refine v_iconst (v := 1) X dX7_door_94 (by decide) ?_
              refine v_goto (tgt := 99) X dX7_door_95 (by decide) ?_
              exact v_loc [4, 3, 2, 1, 0] rfl (v_at (P := fun (u16 : Bool) h => V K 9 h 99 [(0, .ref t), (1, .long v7), (3, .int v11), (4, .int v14), (5, .int (b2i v15))] [.int (b2i u16), .ref t]) hd KJ)
            · have hd := cnd_f q hd
              refine v_aload_n X dX7_door_85 4 0 rfl rfl ?_
              refine v_ldcS X 27 (by decide) rfl dX7_door_86 ?_
              refine v_callU X hd hle (ct_X6_is _ t 27) hu_X7_114 rfl dn_X6_is rfl ⟨by decide, by decide⟩ rfl (Nat.le_of_ble_eq_true rfl) dX7_door_88 (fun v97 h hd => ?_)
              show V K 9 h 91 [(5, .int (b2i v15)), (4, .int v14), (3, .int v11), (1, .long v7), (0, .ref t)] [.int (b2i v97), .ref t]
              refine v_ifZ_eq (tgt := 98) X dX7_door_91 (by decide) (fun q => ?_) (fun q => ?_)
              · have hd := cnd_f q hd
                refine v_iconst (v := 0) X dX7_door_98 (by decide) ?_
                exact v_loc [4, 3, 2, 1, 0] rfl (v_at (P := fun (u16 : Bool) h => V K 9 h 99 [(0, .ref t), (1, .long v7), (3, .int v11), (4, .int v14), (5, .int (b2i v15))] [.int (b2i u16), .ref t]) hd KJ)
              · have hd := cnd_t q hd
                refine v_iconst (v := 1) X dX7_door_94 (by decide) ?_
                refine v_goto (tgt := 99) X dX7_door_95 (by decide) ?_
                exact v_loc [4, 3, 2, 1, 0] rfl (v_at (P := fun (u16 : Bool) h => V K 9 h 99 [(0, .ref t), (1, .long v7), (3, .int v11), (4, .int v14), (5, .int (b2i v15))] [.int (b2i u16), .ref t]) hd KJ)
          · have hd := cs_l hd
            obtain ⟨rfl, hh⟩ := px_inl hd
            exact vx_leave X hex ho hh
        · have hd := cs_l hd
          obtain ⟨rfl, hh⟩ := px_inl hd
          exact vx_leave X hex ho hh
      · have hd := cs_l hd
        obtain ⟨rfl, hh⟩ := px_inl hd
        exact vx_leave X hex ho hh
    have hle := (Mo.le hd2).tr hle
    clear hd2
    refine v_icmp_ne (tgt := 26) X dX7_door_19 (by decide) (fun q => ?_) (fun q => ?_)
    · have hd := ite_f q hd
      refine v_iconst (v := 0) X dX7_door_26 (by decide) ?_
      exact v_loc [0] rfl (v_at (P := fun (u5 : Bool) h => V K 9 h 27 [(0, .ref t)] [.int (b2i u5), .ref t]) hd KJ)
    · have hd := ite_t q hd
      refine v_iconst (v := 1) X dX7_door_22 (by decide) ?_
      refine v_goto (tgt := 27) X dX7_door_23 (by decide) ?_
      exact v_loc [0] rfl (v_at (P := fun (u5 : Bool) h => V K 9 h 27 [(0, .ref t)] [.int (b2i u5), .ref t]) hd KJ)
  · have hd := cs_l hd
    obtain ⟨rfl, hh⟩ := px_inl hd
    exact vx_leave X hex ho hh
def dkwX7_line_7 : List UInt8 := [177]
abbrev dktX7_line_7 : List UInt8 := dkwX7_line_7 ++ []
def dkwX7_line_6 : List UInt8 := [5, 182, 0, 35, 42, 180, 0, 15, 16, 10, 42, 180, 0, 82, 104, 28, 96, 181, 0, 39, 42, 182, 0, 53]
abbrev dktX7_line_6 : List UInt8 := dkwX7_line_6 ++ dktX7_line_7
def dkwX7_line_5 : List UInt8 := [180, 0, 15, 180, 0, 85, 16, 10, 42, 180, 0, 82, 104, 28, 96, 46, 154, 0, 7, 4, 167, 0, 4, 3]
abbrev dktX7_line_5 : List UInt8 := dkwX7_line_5 ++ dktX7_line_6
def dkwX7_line_4 : List UInt8 := [167, 0, 4, 3, 4, 182, 0, 35, 42, 42, 180, 0, 82, 42, 180, 0, 15, 180, 0, 44, 162, 0, 27, 42]
abbrev dktX7_line_4 : List UInt8 := dkwX7_line_4 ++ dktX7_line_5
def dkwX7_line_3 : List UInt8 := [180, 0, 15, 180, 0, 75, 4, 100, 182, 0, 78, 61, 42, 42, 180, 0, 23, 5, 160, 0, 7, 4]
abbrev dktX7_line_3 : List UInt8 := dkwX7_line_3 ++ dktX7_line_4
def dkwX7_line_2 : List UInt8 := [42, 182, 0, 66, 167, 0, 114, 42, 182, 0, 69, 167, 0, 107, 42, 182, 0, 72, 167, 0, 100, 42, 3, 42]
abbrev dktX7_line_2 : List UInt8 := dkwX7_line_2 ++ dktX7_line_3
def dkwX7_line_1 : List UInt8 := [170, 0, 0, 0, 0, 0, 48, 0, 0, 0, 0, 0, 0, 0, 2, 0, 0, 0, 27, 0, 0, 0, 34, 0, 0, 0, 41]
abbrev dktX7_line_1 : List UInt8 := dkwX7_line_1 ++ dktX7_line_2
def dkwX7_line_0 : List UInt8 := [27]
abbrev dktX7_line_0 : List UInt8 := dkwX7_line_0 ++ dktX7_line_1
theorem dksX7_line_0 : cX7_line.data.toList.drop 0 = dktX7_line_0 := by decide +kernel
theorem dksX7_line_1 : cX7_line.data.toList.drop 1 = dktX7_line_1 := dk_seg dksX7_line_0 1 rfl rfl
theorem dksX7_line_2 : cX7_line.data.toList.drop 28 = dktX7_line_2 := dk_seg dksX7_line_1 27 rfl rfl
theorem dksX7_line_3 : cX7_line.data.toList.drop 52 = dktX7_line_3 := dk_seg dksX7_line_2 24 rfl rfl
theorem dksX7_line_4 : cX7_line.data.toList.drop 74 = dktX7_line_4 := dk_seg dksX7_line_3 22 rfl rfl
theorem dksX7_line_5 : cX7_line.data.toList.drop 98 = dktX7_line_5 := dk_seg dksX7_line_4 24 rfl rfl
theorem dksX7_line_6 : cX7_line.data.toList.drop 122 = dktX7_line_6 := dk_seg dksX7_line_5 24 rfl rfl
theorem dksX7_line_7 : cX7_line.data.toList.drop 146 = dktX7_line_7 := dk_seg dksX7_line_6 24 rfl rfl
theorem dX7_line_0 : decode cX7_line 0 = .ok (.iload_n 1, 1) := dk_27 (dk_at dksX7_line_0 0 rfl rfl)
theorem dX7_line_1 : decode cX7_line 1 = .ok (.tableswitch 48 0 2 #[27, 34, 41], 27) := by decide +kernel
theorem dX7_line_28 : decode cX7_line 28 = .ok (.aload_n 0, 1) := dk_42 (dk_at dksX7_line_2 0 rfl rfl)
theorem dX7_line_29 : decode cX7_line 29 = .ok (.invokevirtual 66, 3) := dk_182 0 66 (dk_at dksX7_line_2 1 rfl rfl)
theorem dX7_line_32 : decode cX7_line 32 = .ok (.goto 114, 3) := dk_167 0 114 (dk_at dksX7_line_2 4 rfl rfl)
theorem dX7_line_35 : decode cX7_line 35 = .ok (.aload_n 0, 1) := dk_42 (dk_at dksX7_line_2 7 rfl rfl)
theorem dX7_line_36 : decode cX7_line 36 = .ok (.invokevirtual 69, 3) := dk_182 0 69 (dk_at dksX7_line_2 8 rfl rfl)
theorem dX7_line_39 : decode cX7_line 39 = .ok (.goto 107, 3) := dk_167 0 107 (dk_at dksX7_line_2 11 rfl rfl)
theorem dX7_line_42 : decode cX7_line 42 = .ok (.aload_n 0, 1) := dk_42 (dk_at dksX7_line_2 14 rfl rfl)
theorem dX7_line_43 : decode cX7_line 43 = .ok (.invokevirtual 72, 3) := dk_182 0 72 (dk_at dksX7_line_2 15 rfl rfl)
theorem dX7_line_46 : decode cX7_line 46 = .ok (.goto 100, 3) := dk_167 0 100 (dk_at dksX7_line_2 18 rfl rfl)
theorem dX7_line_49 : decode cX7_line 49 = .ok (.aload_n 0, 1) := dk_42 (dk_at dksX7_line_2 21 rfl rfl)
theorem dX7_line_50 : decode cX7_line 50 = .ok (.iconst 0, 1) := dk_3 (dk_at dksX7_line_2 22 rfl rfl)
theorem dX7_line_51 : decode cX7_line 51 = .ok (.aload_n 0, 1) := dk_42 (dk_at dksX7_line_2 23 rfl rfl)
theorem dX7_line_52 : decode cX7_line 52 = .ok (.getfield 15, 3) := dk_180 0 15 (dk_at dksX7_line_3 0 rfl rfl)
theorem dX7_line_55 : decode cX7_line 55 = .ok (.getfield 75, 3) := dk_180 0 75 (dk_at dksX7_line_3 3 rfl rfl)
theorem dX7_line_58 : decode cX7_line 58 = .ok (.iconst 1, 1) := dk_4 (dk_at dksX7_line_3 6 rfl rfl)
theorem dX7_line_59 : decode cX7_line 59 = .ok (.isub, 1) := dk_100 (dk_at dksX7_line_3 7 rfl rfl)
theorem dX7_line_60 : decode cX7_line 60 = .ok (.invokevirtual 78, 3) := dk_182 0 78 (dk_at dksX7_line_3 8 rfl rfl)
theorem dX7_line_63 : decode cX7_line 63 = .ok (.istore_n 2, 1) := dk_61 (dk_at dksX7_line_3 11 rfl rfl)
theorem dX7_line_64 : decode cX7_line 64 = .ok (.aload_n 0, 1) := dk_42 (dk_at dksX7_line_3 12 rfl rfl)
theorem dX7_line_65 : decode cX7_line 65 = .ok (.aload_n 0, 1) := dk_42 (dk_at dksX7_line_3 13 rfl rfl)
theorem dX7_line_66 : decode cX7_line 66 = .ok (.getfield 23, 3) := dk_180 0 23 (dk_at dksX7_line_3 14 rfl rfl)
theorem dX7_line_69 : decode cX7_line 69 = .ok (.iconst 2, 1) := dk_5 (dk_at dksX7_line_3 17 rfl rfl)
theorem dX7_line_70 : decode cX7_line 70 = .ok (.if_icmp .ne 7, 3) := dk_160 0 7 (dk_at dksX7_line_3 18 rfl rfl)
theorem dX7_line_73 : decode cX7_line 73 = .ok (.iconst 1, 1) := dk_4 (dk_at dksX7_line_3 21 rfl rfl)
theorem dX7_line_74 : decode cX7_line 74 = .ok (.goto 4, 3) := dk_167 0 4 (dk_at dksX7_line_4 0 rfl rfl)
theorem dX7_line_77 : decode cX7_line 77 = .ok (.iconst 0, 1) := dk_3 (dk_at dksX7_line_4 3 rfl rfl)
theorem dX7_line_78 : decode cX7_line 78 = .ok (.iconst 1, 1) := dk_4 (dk_at dksX7_line_4 4 rfl rfl)
theorem dX7_line_79 : decode cX7_line 79 = .ok (.invokevirtual 35, 3) := dk_182 0 35 (dk_at dksX7_line_4 5 rfl rfl)
theorem dX7_line_82 : decode cX7_line 82 = .ok (.aload_n 0, 1) := dk_42 (dk_at dksX7_line_4 8 rfl rfl)
theorem dX7_line_83 : decode cX7_line 83 = .ok (.aload_n 0, 1) := dk_42 (dk_at dksX7_line_4 9 rfl rfl)
theorem dX7_line_84 : decode cX7_line 84 = .ok (.getfield 82, 3) := dk_180 0 82 (dk_at dksX7_line_4 10 rfl rfl)
theorem dX7_line_87 : decode cX7_line 87 = .ok (.aload_n 0, 1) := dk_42 (dk_at dksX7_line_4 13 rfl rfl)
theorem dX7_line_88 : decode cX7_line 88 = .ok (.getfield 15, 3) := dk_180 0 15 (dk_at dksX7_line_4 14 rfl rfl)
theorem dX7_line_91 : decode cX7_line 91 = .ok (.getfield 44, 3) := dk_180 0 44 (dk_at dksX7_line_4 17 rfl rfl)
theorem dX7_line_94 : decode cX7_line 94 = .ok (.if_icmp .ge 27, 3) := dk_162 0 27 (dk_at dksX7_line_4 20 rfl rfl)
theorem dX7_line_97 : decode cX7_line 97 = .ok (.aload_n 0, 1) := dk_42 (dk_at dksX7_line_4 23 rfl rfl)
theorem dX7_line_98 : decode cX7_line 98 = .ok (.getfield 15, 3) := dk_180 0 15 (dk_at dksX7_line_5 0 rfl rfl)
theorem dX7_line_101 : decode cX7_line 101 = .ok (.getfield 85, 3) := dk_180 0 85 (dk_at dksX7_line_5 3 rfl rfl)
theorem dX7_line_104 : decode cX7_line 104 = .ok (.bipush 10, 2) := dk_16 10 (dk_at dksX7_line_5 6 rfl rfl)
theorem dX7_line_106 : decode cX7_line 106 = .ok (.aload_n 0, 1) := dk_42 (dk_at dksX7_line_5 8 rfl rfl)
theorem dX7_line_107 : decode cX7_line 107 = .ok (.getfield 82, 3) := dk_180 0 82 (dk_at dksX7_line_5 9 rfl rfl)
theorem dX7_line_110 : decode cX7_line 110 = .ok (.imul, 1) := dk_104 (dk_at dksX7_line_5 12 rfl rfl)
theorem dX7_line_111 : decode cX7_line 111 = .ok (.iload_n 2, 1) := dk_28 (dk_at dksX7_line_5 13 rfl rfl)
theorem dX7_line_112 : decode cX7_line 112 = .ok (.iadd, 1) := dk_96 (dk_at dksX7_line_5 14 rfl rfl)
theorem dX7_line_113 : decode cX7_line 113 = .ok (.iaload, 1) := dk_46 (dk_at dksX7_line_5 15 rfl rfl)
theorem dX7_line_114 : decode cX7_line 114 = .ok (.ifCond .ne 7, 3) := dk_154 0 7 (dk_at dksX7_line_5 16 rfl rfl)
theorem dX7_line_117 : decode cX7_line 117 = .ok (.iconst 1, 1) := dk_4 (dk_at dksX7_line_5 19 rfl rfl)
theorem dX7_line_118 : decode cX7_line 118 = .ok (.goto 4, 3) := dk_167 0 4 (dk_at dksX7_line_5 20 rfl rfl)
theorem dX7_line_121 : decode cX7_line 121 = .ok (.iconst 0, 1) := dk_3 (dk_at dksX7_line_5 23 rfl rfl)
theorem dX7_line_122 : decode cX7_line 122 = .ok (.iconst 2, 1) := dk_5 (dk_at dksX7_line_6 0 rfl rfl)
theorem dX7_line_123 : decode cX7_line 123 = .ok (.invokevirtual 35, 3) := dk_182 0 35 (dk_at dksX7_line_6 1 rfl rfl)
theorem dX7_line_126 : decode cX7_line 126 = .ok (.aload_n 0, 1) := dk_42 (dk_at dksX7_line_6 4 rfl rfl)
theorem dX7_line_127 : decode cX7_line 127 = .ok (.getfield 15, 3) := dk_180 0 15 (dk_at dksX7_line_6 5 rfl rfl)
theorem dX7_line_130 : decode cX7_line 130 = .ok (.bipush 10, 2) := dk_16 10 (dk_at dksX7_line_6 8 rfl rfl)
theorem dX7_line_132 : decode cX7_line 132 = .ok (.aload_n 0, 1) := dk_42 (dk_at dksX7_line_6 10 rfl rfl)
theorem dX7_line_133 : decode cX7_line 133 = .ok (.getfield 82, 3) := dk_180 0 82 (dk_at dksX7_line_6 11 rfl rfl)
theorem dX7_line_136 : decode cX7_line 136 = .ok (.imul, 1) := dk_104 (dk_at dksX7_line_6 14 rfl rfl)
theorem dX7_line_137 : decode cX7_line 137 = .ok (.iload_n 2, 1) := dk_28 (dk_at dksX7_line_6 15 rfl rfl)
theorem dX7_line_138 : decode cX7_line 138 = .ok (.iadd, 1) := dk_96 (dk_at dksX7_line_6 16 rfl rfl)
theorem dX7_line_139 : decode cX7_line 139 = .ok (.putfield 39, 3) := dk_181 0 39 (dk_at dksX7_line_6 17 rfl rfl)
theorem dX7_line_142 : decode cX7_line 142 = .ok (.aload_n 0, 1) := dk_42 (dk_at dksX7_line_6 20 rfl rfl)
theorem dX7_line_143 : decode cX7_line 143 = .ok (.invokevirtual 53, 3) := dk_182 0 53 (dk_at dksX7_line_6 21 rfl rfl)
theorem dX7_line_146 : decode cX7_line 146 = .ok (.return_, 1) := dk_177 (dk_at dksX7_line_7 0 rfl rfl)
theorem fp_X7_39 {nm : String} : gFp "BitingDoors$HouseReader" nm 39 [3] 8 .int := by
  intro args s hts hN ci hc
  simp only [List.mem_cons, List.not_mem_nil, or_false] at hc
  subst hc
  exact ⟨RX4, TX4, 9, "BitingDoors$House", gCl_X4, in_X4, by decide, Or.inl ⟨rfl, Or.inr ⟨"BitingDoors", va_Nw.use rfl (hN.1 ("BitingDoors$HouseReader", 39, "BitingDoors$House", "bed", "I", "BitingDoors") (List.mem_of_getElem? (i := 50) rfl))⟩⟩, fun _ h => h, rfl, fun D tys hK => gap_X4 hts hK⟩
theorem dn_X7_line : yX7_line.cls ≠ "java/lang/invoke/MethodHandle" ∧ yX7_line.cls ≠ "java/lang/invoke/VarHandle" ∧ (parseMethodDescriptor yX7_line.desc).map (fun d => d.parameters.length) = some 1 := by decide +kernel
noncomputable def M_X7_line (t : Nat) (p1 : Int32) : Mo (Nat ⊕ Unit) := Mo.bind (chk [5] t) (fun _ => if p1 = 0 then Mo.bind (M_X7_row t) (fun w => Mo.cs w (fun b => Mo.pure (Sum.inl b)) (fun v39 => Mo.pure (Sum.inr ()))) else if p1 = 1 then Mo.bind (M_X7_door t) (fun w => Mo.cs w (fun b => Mo.pure (Sum.inl b)) (fun v38 => Mo.pure (Sum.inr ()))) else if p1 = 2 then Mo.bind (M_X7_draught t) (fun w => Mo.cs w (fun b => Mo.pure (Sum.inl b)) (fun v37 => Mo.pure (Sum.inr ()))) else Mo.bind (gR [5] t 8) (fun v19 => Mo.bind (gI [3] v19 4) (fun v20 => Mo.bind (Mo.bind (chk [5] t) (fun _ => M_X6_number t 0 (v20 - 1))) (fun w => Mo.cs w (fun b => Mo.pure (Sum.inl b)) (fun v21 => Mo.bind (gI [5] t 3) (fun v22 => Mo.bind ((if v22 = 2 then Mo.pure true else Mo.pure false : Mo (Bool))) (fun u23 => Mo.bind (Mo.bind (chk [5] t) (fun _ => M_X6_must t u23 1)) (fun w => Mo.cs w (fun b => Mo.pure (Sum.inl b)) (fun v24 => Mo.bind (gI [5] t 4) (fun v25 => Mo.bind (gR [5] t 8) (fun v26 => Mo.bind (gI [3] v26 5) (fun v27 => Mo.bind ((if v27 ≤ v25 then Mo.pure false else Mo.bind (gR [5] t 8) (fun v33 => Mo.bind (gR [3] v33 0) (fun v34 => Mo.bind (gI [5] t 4) (fun v35 => Mo.bind (aldI 0 v34 ((10 * v35) + v21)) (fun v36 => if v36 = 0 then Mo.pure true else Mo.pure false)))) : Mo (Bool))) (fun u28 => Mo.bind (Mo.bind (chk [5] t) (fun _ => M_X6_must t u28 2)) (fun w => Mo.cs w (fun b => Mo.pure (Sum.inl b)) (fun v29 => Mo.bind (gR [5] t 8) (fun v30 => Mo.bind (gI [5] t 4) (fun v31 => Mo.bind (pF [3] v30 8 (.int ((10 * v31) + v21))) (fun _ => Mo.bind (Mo.bind (chk [5] t) (fun _ => M_X6_next t)) (fun v32 => Mo.pure (Sum.inr ()))))))))))))))))))))
set_option maxHeartbeats 4000000 in
theorem ct_X7_line (G : gG) (t : Nat) (p1 : Int32) : gCx G yX7_line cX7_line 3 none 8 177 [.ref t, .int p1] (M_X7_line t p1) (fun _ : Unit => none) := by
  refine gCx.of (by decide) (Nat.le_of_ble_eq_true rfl) (fun K r hG X hex hd ho => ?_)
  subst hG
  have X : gX K cX7_line 3 "BitingDoors$HouseReader" "line" none 8 177 := X
  have hle : gLe (kh1 K) (kh1 K) := gLe.rf
  show V K 3 (kh0 K) 0 [(0, .ref t), (1, .int p1)] []
  generalize kh0 K = h at hd ⊢
  unfold M_X7_line at hd
  obtain ⟨-, hd⟩ := chk_some hd
  refine v_iload_n X dX7_line_0 1 1 rfl rfl ?_
  by_cases q0 : p1 = 0
  · have hd := ite_t q0 hd
    refine v_tableIn (k := 0) (off := 27) (tgt := 28) X dX7_line_1 q0 (by decide) (by decide) rfl (by decide) ?_
    refine v_aload_n X dX7_line_28 0 0 rfl rfl ?_
    refine v_callVX X hd hle (ct_X7_row _ t) gCl_X7 q780 q782 qs4 q117 q783 dn_X7_row rfl ⟨by decide, by decide⟩ rfl (Nat.le_of_ble_eq_true rfl) dX7_line_29 (fun v39 h hd => ?_) (fun b h hd => ?_)
    · show V K 3 h 32 [(0, .ref t), (1, .int p1)] []
      have hd := cs_r hd
      refine v_goto (tgt := 146) X dX7_line_32 (by decide) ?_
      obtain ⟨rfl, hx⟩ := px_inr hd
      exact v_vret X hx ho dX7_line_146
    · have hd := cs_l hd
      obtain ⟨rfl, hh⟩ := px_inl hd
      exact vx_leave X hex ho hh
  · have hd := ite_f q0 hd
    by_cases q1 : p1 = 1
    · have hd := ite_t q1 hd
      refine v_tableIn (k := 1) (off := 34) (tgt := 35) X dX7_line_1 q1 (by decide) (by decide) rfl (by decide) ?_
      refine v_aload_n X dX7_line_35 0 0 rfl rfl ?_
      refine v_callVX X hd hle (ct_X7_door _ t) gCl_X7 q790 q792 qs5 q117 q793 dn_X7_door rfl ⟨by decide, by decide⟩ rfl (Nat.le_of_ble_eq_true rfl) dX7_line_36 (fun v38 h hd => ?_) (fun b h hd => ?_)
      · show V K 3 h 39 [(0, .ref t), (1, .int p1)] []
        have hd := cs_r hd
        refine v_goto (tgt := 146) X dX7_line_39 (by decide) ?_
        obtain ⟨rfl, hx⟩ := px_inr hd
        exact v_vret X hx ho dX7_line_146
      · have hd := cs_l hd
        obtain ⟨rfl, hh⟩ := px_inl hd
        exact vx_leave X hex ho hh
    · have hd := ite_f q1 hd
      by_cases q2 : p1 = 2
      · have hd := ite_t q2 hd
        refine v_tableIn (k := 2) (off := 41) (tgt := 42) X dX7_line_1 q2 (by decide) (by decide) rfl (by decide) ?_
        refine v_aload_n X dX7_line_42 0 0 rfl rfl ?_
        refine v_callVX X hd hle (ct_X7_draught _ t) gCl_X7 q903 q905 qs7 q117 q906 dn_X7_draught rfl ⟨by decide, by decide⟩ rfl (Nat.le_of_ble_eq_true rfl) dX7_line_43 (fun v37 h hd => ?_) (fun b h hd => ?_)
        · show V K 3 h 46 [(0, .ref t), (1, .int p1)] []
          have hd := cs_r hd
          refine v_goto (tgt := 146) X dX7_line_46 (by decide) ?_
          obtain ⟨rfl, hx⟩ := px_inr hd
          exact v_vret X hx ho dX7_line_146
        · have hd := cs_l hd
          obtain ⟨rfl, hh⟩ := px_inl hd
          exact vx_leave X hex ho hh
      · have hd := ite_f q2 hd
        have eq0 := lv_neT q0 (k := 0) (a := 0) (by decide)
        have eq1 := lv_neT q1 (k := 1) (a := 1) (by decide)
        have eq2 := lv_neT q2 (k := 2) (a := 2) (by decide)
        refine v_tableOut (tgt := 49) X dX7_line_1 (by omega) (by decide) ?_
        refine v_aload_n X dX7_line_49 0 0 rfl rfl ?_
        refine v_iconst (v := 0) X dX7_line_50 (by decide) ?_
        refine v_aload_n X dX7_line_51 0 0 rfl rfl ?_
        refine v_getR X hd fl_X7_15 dX7_line_52 (fun v19 hd => ?_)
        refine v_getI X hd fl_X7_75 dX7_line_55 (fun v20 hd => ?_)
        refine v_iconst (v := 1) X dX7_line_58 (by decide) ?_
        refine v_isub X dX7_line_59 ?_
        refine v_callUX X hd hle (ct_X6_number _ t 0 (v20 - 1)) hu_X7_78 rfl dn_X6_number rfl q116 q813 ⟨by decide, by decide⟩ rfl (Nat.le_of_ble_eq_true rfl) dX7_line_60 (fun v21 h hd => ?_) (fun b h hd => ?_)
        · show V K 3 h 63 [(0, .ref t), (1, .int p1)] [.int v21]
          have hd := cs_r hd
          refine v_istore_n (lv2 := [(2, .int v21), (0, .ref t), (1, .int p1)]) X dX7_line_63 2 rfl (by decide) rfl ?_
          refine v_aload_n X dX7_line_64 1 0 rfl rfl ?_
          refine v_aload_n X dX7_line_65 1 0 rfl rfl ?_
          refine v_getI X hd fl_X7_23 dX7_line_66 (fun v22 hd => ?_)
          refine v_iconst (v := 2) X dX7_line_69 (by decide) ?_
          obtain ⟨u23, h1, hd, hd2⟩ := Mo.bind_some hd
          have KJ : V K 3 h1 78 [(0, .ref t), (2, .int v21)] [.int (b2i u23), .ref t] := by
            clear hd
            have hd := hd2
            refine v_iconst (v := 1) X dX7_line_78 (by decide) ?_
            refine v_callUX X hd hle (ct_X6_must _ t u23 1) hu_X7_35 rfl dn_X6_must rfl q116 q764 ⟨by decide, by decide⟩ rfl (Nat.le_of_ble_eq_true rfl) dX7_line_79 (fun v24 h hd => ?_) (fun b h hd => ?_)
            · show V K 3 h 82 [(0, .ref t), (2, .int v21)] []
              have hd := cs_r hd
              refine v_aload_n X dX7_line_82 0 0 rfl rfl ?_
              refine v_aload_n X dX7_line_83 0 0 rfl rfl ?_
              refine v_getI X hd fl_X7_82 dX7_line_84 (fun v25 hd => ?_)
              refine v_aload_n X dX7_line_87 0 0 rfl rfl ?_
              refine v_getR X hd fl_X7_15 dX7_line_88 (fun v26 hd => ?_)
              refine v_getI X hd fl_X7_44 dX7_line_91 (fun v27 hd => ?_)
              obtain ⟨u28, h1, hd, hd2⟩ := Mo.bind_some hd
              have KJ : V K 3 h1 122 [(0, .ref t), (2, .int v21)] [.int (b2i u28), .ref t] := by
                clear hd
                have hd := hd2
                refine v_iconst (v := 2) X dX7_line_122 (by decide) ?_
                refine v_callUX X hd hle (ct_X6_must _ t u28 2) hu_X7_35 rfl dn_X6_must rfl q116 q764 ⟨by decide, by decide⟩ rfl (Nat.le_of_ble_eq_true rfl) dX7_line_123 (fun v29 h hd => ?_) (fun b h hd => ?_)
                · show V K 3 h 126 [(0, .ref t), (2, .int v21)] []
                  have hd := cs_r hd
                  refine v_aload_n X dX7_line_126 0 0 rfl rfl ?_
                  refine v_getR X hd fl_X7_15 dX7_line_127 (fun v30 hd => ?_)
                  refine v_bipush (v := 10) X dX7_line_130 (by decide) ?_
                  refine v_aload_n X dX7_line_132 0 0 rfl rfl ?_
                  refine v_getI X hd fl_X7_82 dX7_line_133 (fun v31 hd => ?_)
                  refine v_imul X dX7_line_136 ?_
                  refine v_iload_n X dX7_line_137 1 2 rfl rfl ?_
                  refine v_iadd X dX7_line_138 ?_
                  refine v_put (v := .int ((10 * v31) + v21)) X hd fp_X7_39 rfl rfl dX7_line_139 (fun h hd => ?_)
                  refine v_aload_n X dX7_line_142 0 0 rfl rfl ?_
                  refine v_callU X hd hle (ct_X6_next _ t) hu_X7_53 rfl dn_X6_next rfl ⟨by decide, by decide⟩ rfl (Nat.le_of_ble_eq_true rfl) dX7_line_143 (fun v32 h hd => ?_)
                  show V K 3 h 146 [(0, .ref t), (2, .int v21)] []
                  obtain ⟨rfl, hx⟩ := px_inr hd
                  exact v_vret X hx ho dX7_line_146
                · have hd := cs_l hd
                  obtain ⟨rfl, hh⟩ := px_inl hd
                  exact vx_leave X hex ho hh
              have hle := (Mo.le hd2).tr hle
              clear hd2
              refine v_icmp_ge (tgt := 121) X dX7_line_94 (by decide) (fun q => ?_) (fun q => ?_)
              · have hd := ite_t q hd
                refine v_iconst (v := 0) X dX7_line_121 (by decide) ?_
                exact v_loc [0, 1] rfl (v_at (P := fun (u28 : Bool) h => V K 3 h 122 [(0, .ref t), (2, .int v21)] [.int (b2i u28), .ref t]) hd KJ)
              · have hd := ite_f q hd
                refine v_aload_n X dX7_line_97 0 0 rfl rfl ?_
                refine v_getR X hd fl_X7_15 dX7_line_98 (fun v33 hd => ?_)
                refine v_getR X hd fl_X7_85 dX7_line_101 (fun v34 hd => ?_)
                refine v_bipush (v := 10) X dX7_line_104 (by decide) ?_
                refine v_aload_n X dX7_line_106 0 0 rfl rfl ?_
                refine v_getI X hd fl_X7_82 dX7_line_107 (fun v35 hd => ?_)
                refine v_imul X dX7_line_110 ?_
                refine v_iload_n X dX7_line_111 1 2 rfl rfl ?_
                refine v_iadd X dX7_line_112 ?_
                refine v_iald X hd dX7_line_113 (fun v36 hd => ?_)
                refine v_if_ne (tgt := 121) X dX7_line_114 (by decide) (fun q => ?_) (fun q => ?_)
                · have hd := ite_f q hd
                  refine v_iconst (v := 0) X dX7_line_121 (by decide) ?_
                  exact v_loc [0, 1] rfl (v_at (P := fun (u28 : Bool) h => V K 3 h 122 [(0, .ref t), (2, .int v21)] [.int (b2i u28), .ref t]) hd KJ)
                · have hd := ite_t q hd
                  refine v_iconst (v := 1) X dX7_line_117 (by decide) ?_
                  refine v_goto (tgt := 122) X dX7_line_118 (by decide) ?_
                  exact v_loc [0, 1] rfl (v_at (P := fun (u28 : Bool) h => V K 3 h 122 [(0, .ref t), (2, .int v21)] [.int (b2i u28), .ref t]) hd KJ)
            · have hd := cs_l hd
              obtain ⟨rfl, hh⟩ := px_inl hd
              exact vx_leave X hex ho hh
          have hle := (Mo.le hd2).tr hle
          clear hd2
          refine v_icmp_ne (tgt := 77) X dX7_line_70 (by decide) (fun q => ?_) (fun q => ?_)
          · have hd := ite_f q hd
            refine v_iconst (v := 0) X dX7_line_77 (by decide) ?_
            exact v_loc [1, 0] rfl (v_at (P := fun (u23 : Bool) h => V K 3 h 78 [(0, .ref t), (2, .int v21)] [.int (b2i u23), .ref t]) hd KJ)
          · have hd := ite_t q hd
            refine v_iconst (v := 1) X dX7_line_73 (by decide) ?_
            refine v_goto (tgt := 78) X dX7_line_74 (by decide) ?_
            exact v_loc [1, 0] rfl (v_at (P := fun (u23 : Bool) h => V K 3 h 78 [(0, .ref t), (2, .int v21)] [.int (b2i u23), .ref t]) hd KJ)
        · have hd := cs_l hd
          obtain ⟨rfl, hh⟩ := px_inl hd
          exact vx_leave X hex ho hh
def dkwX7_read_7 : List UInt8 := [132, 2, 1, 167, 255, 102, 42, 180, 0, 15, 182, 0, 63, 28, 172]
abbrev dktX7_read_7 : List UInt8 := dkwX7_read_7 ++ []
def dkwX7_read_6 : List UInt8 := [167, 0, 4, 3, 7, 182, 0, 35, 42, 182, 0, 53, 42, 29, 182, 0, 56, 42, 16, 59, 182, 0, 60]
abbrev dktX7_read_6 : List UInt8 := dkwX7_read_6 ++ dktX7_read_7
def dkwX7_read_5 : List UInt8 := [3, 167, 0, 25, 29, 5, 160, 0, 15, 42, 180, 0, 15, 180, 0, 50, 16, 6, 162, 0, 7, 4]
abbrev dktX7_read_5 : List UInt8 := dkwX7_read_5 ++ dktX7_read_6
def dkwX7_read_4 : List UInt8 := [167, 0, 50, 29, 4, 160, 0, 23, 42, 180, 0, 15, 180, 0, 47, 16, 10, 162, 0, 7, 4, 167, 0, 29]
abbrev dktX7_read_4 : List UInt8 := dkwX7_read_4 ++ dktX7_read_5
def dkwX7_read_3 : List UInt8 := [42, 29, 154, 0, 23, 42, 180, 0, 15, 180, 0, 44, 16, 10, 162, 0, 7, 4, 167, 0, 54, 3]
abbrev dktX7_read_3 : List UInt8 := dkwX7_read_3 ++ dktX7_read_4
def dkwX7_read_2 : List UInt8 := [6, 160, 0, 14, 42, 180, 0, 15, 180, 0, 39, 2, 160, 0, 7, 4, 167, 0, 4, 3, 6, 182, 0, 35]
abbrev dktX7_read_2 : List UInt8 := dkwX7_read_2 ++ dktX7_read_3
def dkwX7_read_1 : List UInt8 := [180, 0, 27, 182, 0, 31, 62, 42, 29, 2, 159, 0, 7, 4, 167, 0, 4, 3, 4, 182, 0, 35, 42, 29]
abbrev dktX7_read_1 : List UInt8 := dkwX7_read_1 ++ dktX7_read_2
def dkwX7_read_0 : List UInt8 := [42, 43, 181, 0, 15, 3, 61, 42, 182, 0, 19, 42, 180, 0, 23, 153, 0, 153, 42, 42, 180, 0, 3]
abbrev dktX7_read_0 : List UInt8 := dkwX7_read_0 ++ dktX7_read_1
theorem dksX7_read_0 : cX7_read.data.toList.drop 0 = dktX7_read_0 := by decide +kernel
theorem dksX7_read_1 : cX7_read.data.toList.drop 23 = dktX7_read_1 := dk_seg dksX7_read_0 23 rfl rfl
theorem dksX7_read_2 : cX7_read.data.toList.drop 47 = dktX7_read_2 := dk_seg dksX7_read_1 24 rfl rfl
theorem dksX7_read_3 : cX7_read.data.toList.drop 71 = dktX7_read_3 := dk_seg dksX7_read_2 24 rfl rfl
theorem dksX7_read_4 : cX7_read.data.toList.drop 93 = dktX7_read_4 := dk_seg dksX7_read_3 22 rfl rfl
theorem dksX7_read_5 : cX7_read.data.toList.drop 117 = dktX7_read_5 := dk_seg dksX7_read_4 24 rfl rfl
theorem dksX7_read_6 : cX7_read.data.toList.drop 139 = dktX7_read_6 := dk_seg dksX7_read_5 22 rfl rfl
theorem dksX7_read_7 : cX7_read.data.toList.drop 162 = dktX7_read_7 := dk_seg dksX7_read_6 23 rfl rfl
theorem dX7_read_0 : decode cX7_read 0 = .ok (.aload_n 0, 1) := dk_42 (dk_at dksX7_read_0 0 rfl rfl)
theorem dX7_read_1 : decode cX7_read 1 = .ok (.aload_n 1, 1) := dk_43 (dk_at dksX7_read_0 1 rfl rfl)
theorem dX7_read_2 : decode cX7_read 2 = .ok (.putfield 15, 3) := dk_181 0 15 (dk_at dksX7_read_0 2 rfl rfl)
theorem dX7_read_5 : decode cX7_read 5 = .ok (.iconst 0, 1) := dk_3 (dk_at dksX7_read_0 5 rfl rfl)
theorem dX7_read_6 : decode cX7_read 6 = .ok (.istore_n 2, 1) := dk_61 (dk_at dksX7_read_0 6 rfl rfl)
theorem dX7_read_7 : decode cX7_read 7 = .ok (.aload_n 0, 1) := dk_42 (dk_at dksX7_read_0 7 rfl rfl)
theorem dX7_read_8 : decode cX7_read 8 = .ok (.invokevirtual 19, 3) := dk_182 0 19 (dk_at dksX7_read_0 8 rfl rfl)
theorem dX7_read_11 : decode cX7_read 11 = .ok (.aload_n 0, 1) := dk_42 (dk_at dksX7_read_0 11 rfl rfl)
theorem dX7_read_12 : decode cX7_read 12 = .ok (.getfield 23, 3) := dk_180 0 23 (dk_at dksX7_read_0 12 rfl rfl)
theorem dX7_read_15 : decode cX7_read 15 = .ok (.ifCond .eq 153, 3) := dk_153 0 153 (dk_at dksX7_read_0 15 rfl rfl)
theorem dX7_read_18 : decode cX7_read 18 = .ok (.aload_n 0, 1) := dk_42 (dk_at dksX7_read_0 18 rfl rfl)
theorem dX7_read_19 : decode cX7_read 19 = .ok (.aload_n 0, 1) := dk_42 (dk_at dksX7_read_0 19 rfl rfl)
theorem dX7_read_20 : decode cX7_read 20 = .ok (.getfield 3, 3) := dk_180 0 3 (dk_at dksX7_read_0 20 rfl rfl)
theorem dX7_read_23 : decode cX7_read 23 = .ok (.getfield 27, 3) := dk_180 0 27 (dk_at dksX7_read_1 0 rfl rfl)
theorem dX7_read_26 : decode cX7_read 26 = .ok (.invokevirtual 31, 3) := dk_182 0 31 (dk_at dksX7_read_1 3 rfl rfl)
theorem dX7_read_29 : decode cX7_read 29 = .ok (.istore_n 3, 1) := dk_62 (dk_at dksX7_read_1 6 rfl rfl)
theorem dX7_read_30 : decode cX7_read 30 = .ok (.aload_n 0, 1) := dk_42 (dk_at dksX7_read_1 7 rfl rfl)
theorem dX7_read_31 : decode cX7_read 31 = .ok (.iload_n 3, 1) := dk_29 (dk_at dksX7_read_1 8 rfl rfl)
theorem dX7_read_32 : decode cX7_read 32 = .ok (.iconst (-1), 1) := dk_2 (dk_at dksX7_read_1 9 rfl rfl)
theorem dX7_read_33 : decode cX7_read 33 = .ok (.if_icmp .eq 7, 3) := dk_159 0 7 (dk_at dksX7_read_1 10 rfl rfl)
theorem dX7_read_36 : decode cX7_read 36 = .ok (.iconst 1, 1) := dk_4 (dk_at dksX7_read_1 13 rfl rfl)
theorem dX7_read_37 : decode cX7_read 37 = .ok (.goto 4, 3) := dk_167 0 4 (dk_at dksX7_read_1 14 rfl rfl)
theorem dX7_read_40 : decode cX7_read 40 = .ok (.iconst 0, 1) := dk_3 (dk_at dksX7_read_1 17 rfl rfl)
theorem dX7_read_41 : decode cX7_read 41 = .ok (.iconst 1, 1) := dk_4 (dk_at dksX7_read_1 18 rfl rfl)
theorem dX7_read_42 : decode cX7_read 42 = .ok (.invokevirtual 35, 3) := dk_182 0 35 (dk_at dksX7_read_1 19 rfl rfl)
theorem dX7_read_45 : decode cX7_read 45 = .ok (.aload_n 0, 1) := dk_42 (dk_at dksX7_read_1 22 rfl rfl)
theorem dX7_read_46 : decode cX7_read 46 = .ok (.iload_n 3, 1) := dk_29 (dk_at dksX7_read_1 23 rfl rfl)
theorem dX7_read_47 : decode cX7_read 47 = .ok (.iconst 3, 1) := dk_6 (dk_at dksX7_read_2 0 rfl rfl)
theorem dX7_read_48 : decode cX7_read 48 = .ok (.if_icmp .ne 14, 3) := dk_160 0 14 (dk_at dksX7_read_2 1 rfl rfl)
theorem dX7_read_51 : decode cX7_read 51 = .ok (.aload_n 0, 1) := dk_42 (dk_at dksX7_read_2 4 rfl rfl)
theorem dX7_read_52 : decode cX7_read 52 = .ok (.getfield 15, 3) := dk_180 0 15 (dk_at dksX7_read_2 5 rfl rfl)
theorem dX7_read_55 : decode cX7_read 55 = .ok (.getfield 39, 3) := dk_180 0 39 (dk_at dksX7_read_2 8 rfl rfl)
theorem dX7_read_58 : decode cX7_read 58 = .ok (.iconst (-1), 1) := dk_2 (dk_at dksX7_read_2 11 rfl rfl)
theorem dX7_read_59 : decode cX7_read 59 = .ok (.if_icmp .ne 7, 3) := dk_160 0 7 (dk_at dksX7_read_2 12 rfl rfl)
theorem dX7_read_62 : decode cX7_read 62 = .ok (.iconst 1, 1) := dk_4 (dk_at dksX7_read_2 15 rfl rfl)
theorem dX7_read_63 : decode cX7_read 63 = .ok (.goto 4, 3) := dk_167 0 4 (dk_at dksX7_read_2 16 rfl rfl)
theorem dX7_read_66 : decode cX7_read 66 = .ok (.iconst 0, 1) := dk_3 (dk_at dksX7_read_2 19 rfl rfl)
theorem dX7_read_67 : decode cX7_read 67 = .ok (.iconst 3, 1) := dk_6 (dk_at dksX7_read_2 20 rfl rfl)
theorem dX7_read_68 : decode cX7_read 68 = .ok (.invokevirtual 35, 3) := dk_182 0 35 (dk_at dksX7_read_2 21 rfl rfl)
theorem dX7_read_71 : decode cX7_read 71 = .ok (.aload_n 0, 1) := dk_42 (dk_at dksX7_read_3 0 rfl rfl)
theorem dX7_read_72 : decode cX7_read 72 = .ok (.iload_n 3, 1) := dk_29 (dk_at dksX7_read_3 1 rfl rfl)
theorem dX7_read_73 : decode cX7_read 73 = .ok (.ifCond .ne 23, 3) := dk_154 0 23 (dk_at dksX7_read_3 2 rfl rfl)
theorem dX7_read_76 : decode cX7_read 76 = .ok (.aload_n 0, 1) := dk_42 (dk_at dksX7_read_3 5 rfl rfl)
theorem dX7_read_77 : decode cX7_read 77 = .ok (.getfield 15, 3) := dk_180 0 15 (dk_at dksX7_read_3 6 rfl rfl)
theorem dX7_read_80 : decode cX7_read 80 = .ok (.getfield 44, 3) := dk_180 0 44 (dk_at dksX7_read_3 9 rfl rfl)
theorem dX7_read_83 : decode cX7_read 83 = .ok (.bipush 10, 2) := dk_16 10 (dk_at dksX7_read_3 12 rfl rfl)
theorem dX7_read_85 : decode cX7_read 85 = .ok (.if_icmp .ge 7, 3) := dk_162 0 7 (dk_at dksX7_read_3 14 rfl rfl)
theorem dX7_read_88 : decode cX7_read 88 = .ok (.iconst 1, 1) := dk_4 (dk_at dksX7_read_3 17 rfl rfl)
theorem dX7_read_89 : decode cX7_read 89 = .ok (.goto 54, 3) := dk_167 0 54 (dk_at dksX7_read_3 18 rfl rfl)
theorem dX7_read_92 : decode cX7_read 92 = .ok (.iconst 0, 1) := dk_3 (dk_at dksX7_read_3 21 rfl rfl)
theorem dX7_read_93 : decode cX7_read 93 = .ok (.goto 50, 3) := dk_167 0 50 (dk_at dksX7_read_4 0 rfl rfl)
theorem dX7_read_96 : decode cX7_read 96 = .ok (.iload_n 3, 1) := dk_29 (dk_at dksX7_read_4 3 rfl rfl)
theorem dX7_read_97 : decode cX7_read 97 = .ok (.iconst 1, 1) := dk_4 (dk_at dksX7_read_4 4 rfl rfl)
theorem dX7_read_98 : decode cX7_read 98 = .ok (.if_icmp .ne 23, 3) := dk_160 0 23 (dk_at dksX7_read_4 5 rfl rfl)
theorem dX7_read_101 : decode cX7_read 101 = .ok (.aload_n 0, 1) := dk_42 (dk_at dksX7_read_4 8 rfl rfl)
theorem dX7_read_102 : decode cX7_read 102 = .ok (.getfield 15, 3) := dk_180 0 15 (dk_at dksX7_read_4 9 rfl rfl)
theorem dX7_read_105 : decode cX7_read 105 = .ok (.getfield 47, 3) := dk_180 0 47 (dk_at dksX7_read_4 12 rfl rfl)
theorem dX7_read_108 : decode cX7_read 108 = .ok (.bipush 10, 2) := dk_16 10 (dk_at dksX7_read_4 15 rfl rfl)
theorem dX7_read_110 : decode cX7_read 110 = .ok (.if_icmp .ge 7, 3) := dk_162 0 7 (dk_at dksX7_read_4 17 rfl rfl)
theorem dX7_read_113 : decode cX7_read 113 = .ok (.iconst 1, 1) := dk_4 (dk_at dksX7_read_4 20 rfl rfl)
theorem dX7_read_114 : decode cX7_read 114 = .ok (.goto 29, 3) := dk_167 0 29 (dk_at dksX7_read_4 21 rfl rfl)
theorem dX7_read_117 : decode cX7_read 117 = .ok (.iconst 0, 1) := dk_3 (dk_at dksX7_read_5 0 rfl rfl)
theorem dX7_read_118 : decode cX7_read 118 = .ok (.goto 25, 3) := dk_167 0 25 (dk_at dksX7_read_5 1 rfl rfl)
theorem dX7_read_121 : decode cX7_read 121 = .ok (.iload_n 3, 1) := dk_29 (dk_at dksX7_read_5 4 rfl rfl)
theorem dX7_read_122 : decode cX7_read 122 = .ok (.iconst 2, 1) := dk_5 (dk_at dksX7_read_5 5 rfl rfl)
theorem dX7_read_123 : decode cX7_read 123 = .ok (.if_icmp .ne 15, 3) := dk_160 0 15 (dk_at dksX7_read_5 6 rfl rfl)
theorem dX7_read_126 : decode cX7_read 126 = .ok (.aload_n 0, 1) := dk_42 (dk_at dksX7_read_5 9 rfl rfl)
theorem dX7_read_127 : decode cX7_read 127 = .ok (.getfield 15, 3) := dk_180 0 15 (dk_at dksX7_read_5 10 rfl rfl)
theorem dX7_read_130 : decode cX7_read 130 = .ok (.getfield 50, 3) := dk_180 0 50 (dk_at dksX7_read_5 13 rfl rfl)
theorem dX7_read_133 : decode cX7_read 133 = .ok (.bipush 6, 2) := dk_16 6 (dk_at dksX7_read_5 16 rfl rfl)
theorem dX7_read_135 : decode cX7_read 135 = .ok (.if_icmp .ge 7, 3) := dk_162 0 7 (dk_at dksX7_read_5 18 rfl rfl)
theorem dX7_read_138 : decode cX7_read 138 = .ok (.iconst 1, 1) := dk_4 (dk_at dksX7_read_5 21 rfl rfl)
theorem dX7_read_139 : decode cX7_read 139 = .ok (.goto 4, 3) := dk_167 0 4 (dk_at dksX7_read_6 0 rfl rfl)
theorem dX7_read_142 : decode cX7_read 142 = .ok (.iconst 0, 1) := dk_3 (dk_at dksX7_read_6 3 rfl rfl)
theorem dX7_read_143 : decode cX7_read 143 = .ok (.iconst 4, 1) := dk_7 (dk_at dksX7_read_6 4 rfl rfl)
theorem dX7_read_144 : decode cX7_read 144 = .ok (.invokevirtual 35, 3) := dk_182 0 35 (dk_at dksX7_read_6 5 rfl rfl)
theorem dX7_read_147 : decode cX7_read 147 = .ok (.aload_n 0, 1) := dk_42 (dk_at dksX7_read_6 8 rfl rfl)
theorem dX7_read_148 : decode cX7_read 148 = .ok (.invokevirtual 53, 3) := dk_182 0 53 (dk_at dksX7_read_6 9 rfl rfl)
theorem dX7_read_151 : decode cX7_read 151 = .ok (.aload_n 0, 1) := dk_42 (dk_at dksX7_read_6 12 rfl rfl)
theorem dX7_read_152 : decode cX7_read 152 = .ok (.iload_n 3, 1) := dk_29 (dk_at dksX7_read_6 13 rfl rfl)
theorem dX7_read_153 : decode cX7_read 153 = .ok (.invokevirtual 56, 3) := dk_182 0 56 (dk_at dksX7_read_6 14 rfl rfl)
theorem dX7_read_156 : decode cX7_read 156 = .ok (.aload_n 0, 1) := dk_42 (dk_at dksX7_read_6 17 rfl rfl)
theorem dX7_read_157 : decode cX7_read 157 = .ok (.bipush 59, 2) := dk_16 59 (dk_at dksX7_read_6 18 rfl rfl)
theorem dX7_read_159 : decode cX7_read 159 = .ok (.invokevirtual 60, 3) := dk_182 0 60 (dk_at dksX7_read_6 20 rfl rfl)
theorem dX7_read_162 : decode cX7_read 162 = .ok (.iinc 2 1, 3) := dk_132 2 1 (dk_at dksX7_read_7 0 rfl rfl)
theorem dX7_read_165 : decode cX7_read 165 = .ok (.goto (-154), 3) := dk_167 255 102 (dk_at dksX7_read_7 3 rfl rfl)
theorem dX7_read_168 : decode cX7_read 168 = .ok (.aload_n 0, 1) := dk_42 (dk_at dksX7_read_7 6 rfl rfl)
theorem dX7_read_169 : decode cX7_read 169 = .ok (.getfield 15, 3) := dk_180 0 15 (dk_at dksX7_read_7 7 rfl rfl)
theorem dX7_read_172 : decode cX7_read 172 = .ok (.invokevirtual 63, 3) := dk_182 0 63 (dk_at dksX7_read_7 10 rfl rfl)
theorem dX7_read_175 : decode cX7_read 175 = .ok (.iload_n 2, 1) := dk_28 (dk_at dksX7_read_7 13 rfl rfl)
theorem dX7_read_176 : decode cX7_read 176 = .ok (.ireturn, 1) := dk_172 (dk_at dksX7_read_7 14 rfl rfl)
theorem fl_X7_27 : gFl "BitingDoors$HouseReader" 27 [0] 6 := by
  intro args s hts hN ci hc
  simp only [List.mem_cons, List.not_mem_nil, or_false] at hc
  subst hc
  exact ⟨RX1, TX1, 46, "BitingDoors", gCl_X1, in_X1, by decide, Or.inr ⟨"BitingDoors", va_Nw.use rfl (hN.1 ("BitingDoors$HouseReader", 27, "BitingDoors", "lines", "[Ljava/lang/String;", "BitingDoors") (List.mem_of_getElem? (i := 52) rfl))⟩, fun _ h => h⟩
theorem fl_X7_39 : gFl "BitingDoors$HouseReader" 39 [3] 8 := by
  intro args s hts hN ci hc
  simp only [List.mem_cons, List.not_mem_nil, or_false] at hc
  subst hc
  exact ⟨RX4, TX4, 9, "BitingDoors$House", gCl_X4, in_X4, by decide, Or.inr ⟨"BitingDoors", va_Nw.use rfl (hN.1 ("BitingDoors$HouseReader", 39, "BitingDoors$House", "bed", "I", "BitingDoors") (List.mem_of_getElem? (i := 50) rfl))⟩, fun _ h => h⟩
theorem fp_X7_15 {nm : String} : gFp "BitingDoors$HouseReader" nm 15 [5] 8 (.object "BitingDoors$House") := by
  intro args s hts hN ci hc
  simp only [List.mem_cons, List.not_mem_nil, or_false] at hc
  subst hc
  exact ⟨RX7, TX7, 10, "BitingDoors$HouseReader", gCl_X7, in_X7, by decide, Or.inl ⟨rfl, Or.inl (hts _ q385)⟩, fun _ h => h, rfl, fun D tys hK => gap_X7 hts hK⟩
theorem hu_X7_19 : ∀ ci ∈ [5], ∃ rr : vw_C, gCl[ci]? = some rr ∧ GoodIn lw_all (va_wsU "BitingDoors$HouseReader" 19 rr.1 "BitingDoors$Reader" ⟨"BitingDoors$HouseReader", "begin", "()V"⟩ yX6_begin (ws_ yX6_begin cX6_begin 1 none)) := by
  intro ci hc
  simp only [List.mem_cons, List.not_mem_nil, or_false] at hc
  subst hc
  refine ⟨_, gCl_X7, lw_app (fun w hw => ?_) (lw_meth q671)⟩
  simp only [List.mem_cons, List.not_mem_nil, or_false] at hw
  rcases hw with e | e | e | e | e
  · rw [e]; exact q666
  · rw [e]; exact q667
  · rw [e]; exact q669
  · rw [e]; exact q670
  · rw [e]; exact q116
theorem hu_X7_31 : ∀ ci ∈ [5], ∃ rr : vw_C, gCl[ci]? = some rr ∧ GoodIn lw_all (va_wsU "BitingDoors$HouseReader" 31 rr.1 "BitingDoors$Reader" ⟨"BitingDoors$HouseReader", "find", "([Ljava/lang/String;)I"⟩ yX6_find (ws_ yX6_find cX6_find 3 (some .int))) := by
  intro ci hc
  simp only [List.mem_cons, List.not_mem_nil, or_false] at hc
  subst hc
  refine ⟨_, gCl_X7, lw_app (fun w hw => ?_) (lw_meth q703)⟩
  simp only [List.mem_cons, List.not_mem_nil, or_false] at hw
  rcases hw with e | e | e | e | e
  · rw [e]; exact q698
  · rw [e]; exact q699
  · rw [e]; exact q701
  · rw [e]; exact q702
  · rw [e]; exact q116
theorem hu_X7_60 : ∀ ci ∈ [5], ∃ rr : vw_C, gCl[ci]? = some rr ∧ GoodIn lw_all (va_wsU "BitingDoors$HouseReader" 60 rr.1 "BitingDoors$Reader" ⟨"BitingDoors$HouseReader", "sign", "(I)V"⟩ yX6_sign (ws_ yX6_sign cX6_sign 2 none)) := by
  intro ci hc
  simp only [List.mem_cons, List.not_mem_nil, or_false] at hc
  subst hc
  refine ⟨_, gCl_X7, lw_app (fun w hw => ?_) (lw_meth q912)⟩
  simp only [List.mem_cons, List.not_mem_nil, or_false] at hw
  rcases hw with e | e | e | e | e
  · rw [e]; exact q907
  · rw [e]; exact q908
  · rw [e]; exact q910
  · rw [e]; exact q911
  · rw [e]; exact q116
theorem dn_X7_read : yX7_read.cls ≠ "java/lang/invoke/MethodHandle" ∧ yX7_read.cls ≠ "java/lang/invoke/VarHandle" ∧ (parseMethodDescriptor yX7_read.desc).map (fun d => d.parameters.length) = some 1 := by decide +kernel
noncomputable def M_X7_read (t : Nat) (p1 : Nat) : Mo (Nat ⊕ Int32) := Mo.bind (chk [5] t) (fun _ => Mo.bind (pF [5] t 8 (.ref p1)) (fun _ => Mo.bind (Mo.bind (chk [5] t) (fun _ => M_X6_begin t)) (fun v1 => Mo.loop (S := Int32) (fun s2 => Mo.bind (gI [5] t 3) (fun v5 => if v5 = 0 then Mo.bind (gR [5] t 8) (fun v6 => Mo.bind (M_X4_settle v6) (fun v7 => Mo.pure (Sum.inr (Sum.inr s2)))) else Mo.bind (gR [5] t 9) (fun v8 => Mo.bind (gR [0] v8 6) (fun v9 => Mo.bind (Mo.bind (chk [5] t) (fun _ => M_X6_find t v9)) (fun v10 => Mo.bind ((if v10 = (-1) then Mo.pure false else Mo.pure true : Mo (Bool))) (fun u11 => Mo.bind (Mo.bind (chk [5] t) (fun _ => M_X6_must t u11 1)) (fun w => Mo.cs w (fun b => Mo.pure (Sum.inr (Sum.inl b))) (fun v12 => Mo.bind ((if v10 = 3 then Mo.bind (gR [5] t 8) (fun v27 => Mo.bind (gI [3] v27 8) (fun v28 => if v28 = (-1) then Mo.pure true else Mo.pure false)) else Mo.pure true : Mo (Bool))) (fun u13 => Mo.bind (Mo.bind (chk [5] t) (fun _ => M_X6_must t u13 3)) (fun w => Mo.cs w (fun b => Mo.pure (Sum.inr (Sum.inl b))) (fun v14 => Mo.bind ((if v10 = 0 then Mo.bind (gR [5] t 8) (fun v25 => Mo.bind (gI [3] v25 5) (fun v26 => if 10 ≤ v26 then Mo.pure false else Mo.pure true)) else if v10 = 1 then Mo.bind (gR [5] t 8) (fun v23 => Mo.bind (gI [3] v23 6) (fun v24 => if 10 ≤ v24 then Mo.pure false else Mo.pure true)) else if v10 = 2 then Mo.bind (gR [5] t 8) (fun v21 => Mo.bind (gI [3] v21 7) (fun v22 => if 6 ≤ v22 then Mo.pure false else Mo.pure true)) else Mo.pure true : Mo (Bool))) (fun u15 => Mo.bind (Mo.bind (chk [5] t) (fun _ => M_X6_must t u15 4)) (fun w => Mo.cs w (fun b => Mo.pure (Sum.inr (Sum.inl b))) (fun v16 => Mo.bind (Mo.bind (chk [5] t) (fun _ => M_X6_next t)) (fun v17 => Mo.bind (M_X7_line t v10) (fun w => Mo.cs w (fun b => Mo.pure (Sum.inr (Sum.inl b))) (fun v18 => Mo.bind (Mo.bind (chk [5] t) (fun _ => M_X6_sign t 59)) (fun w => Mo.cs w (fun b => Mo.pure (Sum.inr (Sum.inl b))) (fun v19 => Mo.lv (s2 + 1) (fun v20 => Mo.pure (Sum.inl v20))))))))))))))))))))) 0)))
set_option maxHeartbeats 4000000 in
theorem ct_X7_read (G : gG) (t : Nat) (p1 : Nat) : gCx G yX7_read cX7_read 4 (some .int) 9 199 [.ref t, .ref p1] (M_X7_read t p1) (fun x : Int32 => some (.int x)) := by
  refine gCx.of (by decide) (Nat.le_of_ble_eq_true rfl) (fun K r hG X hex hd ho => ?_)
  subst hG
  have X : gX K cX7_read 4 "BitingDoors$HouseReader" "read" (some .int) 9 199 := X
  have hle : gLe (kh1 K) (kh1 K) := gLe.rf
  show V K 4 (kh0 K) 0 [(0, .ref t), (1, .ref p1)] []
  generalize kh0 K = h at hd ⊢
  unfold M_X7_read at hd
  obtain ⟨-, hd⟩ := chk_some hd
  refine v_aload_n X dX7_read_0 0 0 rfl rfl ?_
  refine v_aload_n X dX7_read_1 1 1 rfl rfl ?_
  refine v_put (v := .ref p1) X hd fp_X7_15 rfl rfl dX7_read_2 (fun h hd => ?_)
  refine v_iconst (v := 0) X dX7_read_5 (by decide) ?_
  refine v_istore_n (lv2 := [(2, .int 0), (0, .ref t), (1, .ref p1)]) X dX7_read_6 2 rfl (by decide) rfl ?_
  refine v_aload_n X dX7_read_7 1 0 rfl rfl ?_
  refine v_callU X hd hle (ct_X6_begin _ t) hu_X7_19 rfl dn_X6_begin rfl ⟨by decide, by decide⟩ rfl (Nat.le_of_ble_eq_true rfl) dX7_read_8 (fun v1 h hd => ?_)
  show V K 4 h 11 [(2, .int 0), (0, .ref t), (1, .ref p1)] []
  refine v_loc [1, 0] rfl ?_
  refine loop_ind hd (fun (s2 : Int32) h => V K 4 h 11 [(0, .ref t), (2, .int s2)] []) (fun s2 h x h2 hd hle0 ih3 ho4 => ?_)
  have hle := hle0.tr hle
  refine v_aload_n X dX7_read_11 0 0 rfl rfl ?_
  refine v_getI X hd fl_X7_23 dX7_read_12 (fun v5 hd => ?_)
  refine v_if_eq (tgt := 168) X dX7_read_15 (by decide) (fun q => ?_) (fun q => ?_)
  · have hd := ite_t q hd
    refine v_aload_n X dX7_read_168 0 0 rfl rfl ?_
    refine v_getR X hd fl_X7_15 dX7_read_169 (fun v6 hd => ?_)
    refine v_callV X hd hle (ct_X4_settle _ v6) gCl_X4 (lw_V q920 q921 q922 q114 q923) ⟨rfl, dn_X4_settle⟩ rfl ⟨by decide, by decide⟩ rfl (Nat.le_of_ble_eq_true rfl) dX7_read_172 (fun v7 h hd => ?_)
    show V K 4 h 175 [(0, .ref t), (2, .int s2)] []
    refine v_iload_n X dX7_read_175 1 2 rfl rfl ?_
    have hd := lp_out hd ho4
    obtain ⟨rfl, hx⟩ := px_inr hd
    exact v_iret X hx ho dX7_read_176
  · have hd := ite_f q hd
    refine v_aload_n X dX7_read_18 0 0 rfl rfl ?_
    refine v_aload_n X dX7_read_19 0 0 rfl rfl ?_
    refine v_getR X hd fl_X7_3 dX7_read_20 (fun v8 hd => ?_)
    refine v_getR X hd fl_X7_27 dX7_read_23 (fun v9 hd => ?_)
    refine v_callU X hd hle (ct_X6_find _ t v9) hu_X7_31 rfl dn_X6_find rfl ⟨by decide, by decide⟩ rfl (Nat.le_of_ble_eq_true rfl) dX7_read_26 (fun v10 h hd => ?_)
    show V K 4 h 29 [(0, .ref t), (2, .int s2)] [.int v10]
    refine v_istore_n (lv2 := [(3, .int v10), (0, .ref t), (2, .int s2)]) X dX7_read_29 3 rfl (by decide) rfl ?_
    refine v_aload_n X dX7_read_30 1 0 rfl rfl ?_
    refine v_iload_n X dX7_read_31 0 3 rfl rfl ?_
    refine v_iconst (v := (-1)) X dX7_read_32 (by decide) ?_
    obtain ⟨u11, h1, hd, hd2⟩ := Mo.bind_some hd
    have KJ : V K 4 h1 41 [(0, .ref t), (2, .int s2), (3, .int v10)] [.int (b2i u11), .ref t] := by
      clear hd
      have hd := hd2
      refine v_iconst (v := 1) X dX7_read_41 (by decide) ?_
      refine v_callUX X hd hle (ct_X6_must _ t u11 1) hu_X7_35 rfl dn_X6_must rfl q116 q764 ⟨by decide, by decide⟩ rfl (Nat.le_of_ble_eq_true rfl) dX7_read_42 (fun v12 h hd => ?_) (fun b h hd => ?_)
      · show V K 4 h 45 [(0, .ref t), (2, .int s2), (3, .int v10)] []
        have hd := cs_r hd
        refine v_aload_n X dX7_read_45 0 0 rfl rfl ?_
        refine v_iload_n X dX7_read_46 2 3 rfl rfl ?_
        refine v_iconst (v := 3) X dX7_read_47 (by decide) ?_
        obtain ⟨u13, h1, hd, hd2⟩ := Mo.bind_some hd
        have KJ : V K 4 h1 67 [(0, .ref t), (2, .int s2), (3, .int v10)] [.int (b2i u13), .ref t] := by
          clear hd
          have hd := hd2
          refine v_iconst (v := 3) X dX7_read_67 (by decide) ?_
          refine v_callUX X hd hle (ct_X6_must _ t u13 3) hu_X7_35 rfl dn_X6_must rfl q116 q764 ⟨by decide, by decide⟩ rfl (Nat.le_of_ble_eq_true rfl) dX7_read_68 (fun v14 h hd => ?_) (fun b h hd => ?_)
          · show V K 4 h 71 [(0, .ref t), (2, .int s2), (3, .int v10)] []
            have hd := cs_r hd
            refine v_aload_n X dX7_read_71 0 0 rfl rfl ?_
            refine v_iload_n X dX7_read_72 2 3 rfl rfl ?_
            obtain ⟨u15, h1, hd, hd2⟩ := Mo.bind_some hd
            have KJ : V K 4 h1 143 [(0, .ref t), (2, .int s2), (3, .int v10)] [.int (b2i u15), .ref t] := by
              clear hd
              have hd := hd2
              refine v_iconst (v := 4) X dX7_read_143 (by decide) ?_
              refine v_callUX X hd hle (ct_X6_must _ t u15 4) hu_X7_35 rfl dn_X6_must rfl q116 q764 ⟨by decide, by decide⟩ rfl (Nat.le_of_ble_eq_true rfl) dX7_read_144 (fun v16 h hd => ?_) (fun b h hd => ?_)
              · show V K 4 h 147 [(0, .ref t), (2, .int s2), (3, .int v10)] []
                have hd := cs_r hd
                refine v_aload_n X dX7_read_147 0 0 rfl rfl ?_
                refine v_callU X hd hle (ct_X6_next _ t) hu_X7_53 rfl dn_X6_next rfl ⟨by decide, by decide⟩ rfl (Nat.le_of_ble_eq_true rfl) dX7_read_148 (fun v17 h hd => ?_)
                show V K 4 h 151 [(0, .ref t), (2, .int s2), (3, .int v10)] []
                refine v_aload_n X dX7_read_151 0 0 rfl rfl ?_
                refine v_iload_n X dX7_read_152 2 3 rfl rfl ?_
                refine v_callVX X hd hle (ct_X7_line _ t v10) gCl_X7 q776 q778 qs3 q117 q779 dn_X7_line rfl ⟨by decide, by decide⟩ rfl (Nat.le_of_ble_eq_true rfl) dX7_read_153 (fun v18 h hd => ?_) (fun b h hd => ?_)
                · show V K 4 h 156 [(0, .ref t), (2, .int s2), (3, .int v10)] []
                  have hd := cs_r hd
                  refine v_aload_n X dX7_read_156 0 0 rfl rfl ?_
                  refine v_bipush (v := 59) X dX7_read_157 (by decide) ?_
                  refine v_callUX X hd hle (ct_X6_sign _ t 59) hu_X7_60 rfl dn_X6_sign rfl q116 q912 ⟨by decide, by decide⟩ rfl (Nat.le_of_ble_eq_true rfl) dX7_read_159 (fun v19 h hd => ?_) (fun b h hd => ?_)
                  · show V K 4 h 162 [(0, .ref t), (2, .int s2), (3, .int v10)] []
                    have hd := cs_r hd
                    refine v_iincL (lv2 := fun v20 => [(2, .int v20), (0, .ref t), (3, .int v10)]) X hd dX7_read_162 1 rfl (by decide : Int32.ofInt 1 = 1) (by decide) (fun v20 => rfl) (fun v20 hd => ?_)
                    refine v_goto (tgt := 11) X dX7_read_165 (by decide) ?_
                    exact v_loc [1, 0] rfl (lp_in (P := fun (s2 : Int32) h => V K 4 h 11 [(0, .ref t), (2, .int s2)] []) hd ih3)
                  · have hd := cs_l hd
                    have hd := lp_out hd ho4
                    obtain ⟨rfl, hh⟩ := px_inl hd
                    exact vx_leave X hex ho hh
                · have hd := cs_l hd
                  have hd := lp_out hd ho4
                  obtain ⟨rfl, hh⟩ := px_inl hd
                  exact vx_leave X hex ho hh
              · have hd := cs_l hd
                have hd := lp_out hd ho4
                obtain ⟨rfl, hh⟩ := px_inl hd
                exact vx_leave X hex ho hh
            have hle := (Mo.le hd2).tr hle
            clear hd2
            refine v_if_ne (tgt := 96) X dX7_read_73 (by decide) (fun q => ?_) (fun q => ?_)
            · have hd := ite_f q hd
              refine v_iload_n X dX7_read_96 2 3 rfl rfl ?_
              refine v_iconst (v := 1) X dX7_read_97 (by decide) ?_
              refine v_icmp_ne (tgt := 121) X dX7_read_98 (by decide) (fun q => ?_) (fun q => ?_)
              · have hd := ite_f q hd
                refine v_iload_n X dX7_read_121 2 3 rfl rfl ?_
                refine v_iconst (v := 2) X dX7_read_122 (by decide) ?_
                refine v_icmp_ne (tgt := 138) X dX7_read_123 (by decide) (fun q => ?_) (fun q => ?_)
                · have hd := ite_f q hd
                  refine v_iconst (v := 1) X dX7_read_138 (by decide) ?_
                  refine v_goto (tgt := 143) X dX7_read_139 (by decide) ?_
                  exact v_loc [0, 1, 2] rfl (v_at (P := fun (u15 : Bool) h => V K 4 h 143 [(0, .ref t), (2, .int s2), (3, .int v10)] [.int (b2i u15), .ref t]) hd KJ)
                · have hd := ite_t q hd
                  refine v_aload_n X dX7_read_126 0 0 rfl rfl ?_
                  refine v_getR X hd fl_X7_15 dX7_read_127 (fun v21 hd => ?_)
                  refine v_getI X hd fl_X7_50 dX7_read_130 (fun v22 hd => ?_)
                  refine v_bipush (v := 6) X dX7_read_133 (by decide) ?_
                  refine v_icmp_ge (tgt := 142) X dX7_read_135 (by decide) (fun q => ?_) (fun q => ?_)
                  · have hd := ite_t q hd
                    refine v_iconst (v := 0) X dX7_read_142 (by decide) ?_
                    exact v_loc [0, 1, 2] rfl (v_at (P := fun (u15 : Bool) h => V K 4 h 143 [(0, .ref t), (2, .int s2), (3, .int v10)] [.int (b2i u15), .ref t]) hd KJ)
                  · have hd := ite_f q hd
                    refine v_iconst (v := 1) X dX7_read_138 (by decide) ?_
                    refine v_goto (tgt := 143) X dX7_read_139 (by decide) ?_
                    exact v_loc [0, 1, 2] rfl (v_at (P := fun (u15 : Bool) h => V K 4 h 143 [(0, .ref t), (2, .int s2), (3, .int v10)] [.int (b2i u15), .ref t]) hd KJ)
              · have hd := ite_t q hd
                refine v_aload_n X dX7_read_101 0 0 rfl rfl ?_
                refine v_getR X hd fl_X7_15 dX7_read_102 (fun v23 hd => ?_)
                refine v_getI X hd fl_X7_47 dX7_read_105 (fun v24 hd => ?_)
                refine v_bipush (v := 10) X dX7_read_108 (by decide) ?_
                refine v_icmp_ge (tgt := 117) X dX7_read_110 (by decide) (fun q => ?_) (fun q => ?_)
                · have hd := ite_t q hd
                  refine v_iconst (v := 0) X dX7_read_117 (by decide) ?_
                  refine v_goto (tgt := 143) X dX7_read_118 (by decide) ?_
                  exact v_loc [0, 1, 2] rfl (v_at (P := fun (u15 : Bool) h => V K 4 h 143 [(0, .ref t), (2, .int s2), (3, .int v10)] [.int (b2i u15), .ref t]) hd KJ)
                · have hd := ite_f q hd
                  refine v_iconst (v := 1) X dX7_read_113 (by decide) ?_
                  refine v_goto (tgt := 143) X dX7_read_114 (by decide) ?_
                  exact v_loc [0, 1, 2] rfl (v_at (P := fun (u15 : Bool) h => V K 4 h 143 [(0, .ref t), (2, .int s2), (3, .int v10)] [.int (b2i u15), .ref t]) hd KJ)
            · have hd := ite_t q hd
              refine v_aload_n X dX7_read_76 0 0 rfl rfl ?_
              refine v_getR X hd fl_X7_15 dX7_read_77 (fun v25 hd => ?_)
              refine v_getI X hd fl_X7_44 dX7_read_80 (fun v26 hd => ?_)
              refine v_bipush (v := 10) X dX7_read_83 (by decide) ?_
              refine v_icmp_ge (tgt := 92) X dX7_read_85 (by decide) (fun q => ?_) (fun q => ?_)
              · have hd := ite_t q hd
                refine v_iconst (v := 0) X dX7_read_92 (by decide) ?_
                refine v_goto (tgt := 143) X dX7_read_93 (by decide) ?_
                exact v_loc [0, 1, 2] rfl (v_at (P := fun (u15 : Bool) h => V K 4 h 143 [(0, .ref t), (2, .int s2), (3, .int v10)] [.int (b2i u15), .ref t]) hd KJ)
              · have hd := ite_f q hd
                refine v_iconst (v := 1) X dX7_read_88 (by decide) ?_
                refine v_goto (tgt := 143) X dX7_read_89 (by decide) ?_
                exact v_loc [0, 1, 2] rfl (v_at (P := fun (u15 : Bool) h => V K 4 h 143 [(0, .ref t), (2, .int s2), (3, .int v10)] [.int (b2i u15), .ref t]) hd KJ)
          · have hd := cs_l hd
            have hd := lp_out hd ho4
            obtain ⟨rfl, hh⟩ := px_inl hd
            exact vx_leave X hex ho hh
        have hle := (Mo.le hd2).tr hle
        clear hd2
        refine v_icmp_ne (tgt := 62) X dX7_read_48 (by decide) (fun q => ?_) (fun q => ?_)
        · have hd := ite_f q hd
          refine v_iconst (v := 1) X dX7_read_62 (by decide) ?_
          refine v_goto (tgt := 67) X dX7_read_63 (by decide) ?_
          exact v_loc [0, 1, 2] rfl (v_at (P := fun (u13 : Bool) h => V K 4 h 67 [(0, .ref t), (2, .int s2), (3, .int v10)] [.int (b2i u13), .ref t]) hd KJ)
        · have hd := ite_t q hd
          refine v_aload_n X dX7_read_51 0 0 rfl rfl ?_
          refine v_getR X hd fl_X7_15 dX7_read_52 (fun v27 hd => ?_)
          refine v_getI X hd fl_X7_39 dX7_read_55 (fun v28 hd => ?_)
          refine v_iconst (v := (-1)) X dX7_read_58 (by decide) ?_
          refine v_icmp_ne (tgt := 66) X dX7_read_59 (by decide) (fun q => ?_) (fun q => ?_)
          · have hd := ite_f q hd
            refine v_iconst (v := 0) X dX7_read_66 (by decide) ?_
            exact v_loc [0, 1, 2] rfl (v_at (P := fun (u13 : Bool) h => V K 4 h 67 [(0, .ref t), (2, .int s2), (3, .int v10)] [.int (b2i u13), .ref t]) hd KJ)
          · have hd := ite_t q hd
            refine v_iconst (v := 1) X dX7_read_62 (by decide) ?_
            refine v_goto (tgt := 67) X dX7_read_63 (by decide) ?_
            exact v_loc [0, 1, 2] rfl (v_at (P := fun (u13 : Bool) h => V K 4 h 67 [(0, .ref t), (2, .int s2), (3, .int v10)] [.int (b2i u13), .ref t]) hd KJ)
      · have hd := cs_l hd
        have hd := lp_out hd ho4
        obtain ⟨rfl, hh⟩ := px_inl hd
        exact vx_leave X hex ho hh
    have hle := (Mo.le hd2).tr hle
    clear hd2
    refine v_icmp_eq (tgt := 40) X dX7_read_33 (by decide) (fun q => ?_) (fun q => ?_)
    · have hd := ite_t q hd
      refine v_iconst (v := 0) X dX7_read_40 (by decide) ?_
      exact v_loc [1, 2, 0] rfl (v_at (P := fun (u11 : Bool) h => V K 4 h 41 [(0, .ref t), (2, .int s2), (3, .int v10)] [.int (b2i u11), .ref t]) hd KJ)
    · have hd := ite_f q hd
      refine v_iconst (v := 1) X dX7_read_36 (by decide) ?_
      refine v_goto (tgt := 41) X dX7_read_37 (by decide) ?_
      exact v_loc [1, 2, 0] rfl (v_at (P := fun (u11 : Bool) h => V K 4 h 41 [(0, .ref t), (2, .int s2), (3, .int v10)] [.int (b2i u11), .ref t]) hd KJ)
