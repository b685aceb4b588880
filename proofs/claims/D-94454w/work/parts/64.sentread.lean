set_option maxRecDepth 100000
def dkwX9_any_1 : List UInt8 := [42, 27, 182, 0, 59, 183, 0, 73, 77, 167, 255, 229, 44, 176]
abbrev dktX9_any_1 : List UInt8 := dkwX9_any_1 ++ []
def dkwX9_any_0 : List UInt8 := [42, 27, 182, 0, 59, 77, 42, 18, 62, 182, 0, 64, 153, 0, 24, 42, 182, 0, 68, 187, 0, 71, 89, 44]
abbrev dktX9_any_0 : List UInt8 := dkwX9_any_0 ++ dktX9_any_1
theorem dksX9_any_0 : cX9_any.data.toList.drop 0 = dktX9_any_0 := by decide +kernel
theorem dksX9_any_1 : cX9_any.data.toList.drop 24 = dktX9_any_1 := dk_seg dksX9_any_0 24 rfl rfl
theorem dX9_any_0 : decode cX9_any 0 = .ok (.aload_n 0, 1) := dk_42 (dk_at dksX9_any_0 0 rfl rfl)
theorem dX9_any_1 : decode cX9_any 1 = .ok (.iload_n 1, 1) := dk_27 (dk_at dksX9_any_0 1 rfl rfl)
theorem dX9_any_2 : decode cX9_any 2 = .ok (.invokevirtual 59, 3) := dk_182 0 59 (dk_at dksX9_any_0 2 rfl rfl)
theorem dX9_any_5 : decode cX9_any 5 = .ok (.astore_n 2, 1) := dk_77 (dk_at dksX9_any_0 5 rfl rfl)
theorem dX9_any_6 : decode cX9_any 6 = .ok (.aload_n 0, 1) := dk_42 (dk_at dksX9_any_0 6 rfl rfl)
theorem dX9_any_7 : decode cX9_any 7 = .ok (.ldc 62, 2) := dk_18 62 (dk_at dksX9_any_0 7 rfl rfl)
theorem dX9_any_9 : decode cX9_any 9 = .ok (.invokevirtual 64, 3) := dk_182 0 64 (dk_at dksX9_any_0 9 rfl rfl)
theorem dX9_any_12 : decode cX9_any 12 = .ok (.ifCond .eq 24, 3) := dk_153 0 24 (dk_at dksX9_any_0 12 rfl rfl)
theorem dX9_any_15 : decode cX9_any 15 = .ok (.aload_n 0, 1) := dk_42 (dk_at dksX9_any_0 15 rfl rfl)
theorem dX9_any_16 : decode cX9_any 16 = .ok (.invokevirtual 68, 3) := dk_182 0 68 (dk_at dksX9_any_0 16 rfl rfl)
theorem dX9_any_19 : decode cX9_any 19 = .ok (.new 71, 3) := dk_187 0 71 (dk_at dksX9_any_0 19 rfl rfl)
theorem dX9_any_22 : decode cX9_any 22 = .ok (.dup, 1) := dk_89 (dk_at dksX9_any_0 22 rfl rfl)
theorem dX9_any_23 : decode cX9_any 23 = .ok (.aload_n 2, 1) := dk_44 (dk_at dksX9_any_0 23 rfl rfl)
theorem dX9_any_24 : decode cX9_any 24 = .ok (.aload_n 0, 1) := dk_42 (dk_at dksX9_any_1 0 rfl rfl)
theorem dX9_any_25 : decode cX9_any 25 = .ok (.iload_n 1, 1) := dk_27 (dk_at dksX9_any_1 1 rfl rfl)
theorem dX9_any_26 : decode cX9_any 26 = .ok (.invokevirtual 59, 3) := dk_182 0 59 (dk_at dksX9_any_1 2 rfl rfl)
theorem dX9_any_29 : decode cX9_any 29 = .ok (.invokespecial 73, 3) := dk_183 0 73 (dk_at dksX9_any_1 5 rfl rfl)
theorem dX9_any_32 : decode cX9_any 32 = .ok (.astore_n 2, 1) := dk_77 (dk_at dksX9_any_1 8 rfl rfl)
theorem dX9_any_33 : decode cX9_any 33 = .ok (.goto (-27), 3) := dk_167 255 229 (dk_at dksX9_any_1 9 rfl rfl)
theorem dX9_any_36 : decode cX9_any 36 = .ok (.aload_n 2, 1) := dk_44 (dk_at dksX9_any_1 12 rfl rfl)
theorem dX9_any_37 : decode cX9_any 37 = .ok (.areturn, 1) := dk_176 (dk_at dksX9_any_1 13 rfl rfl)
theorem hu_X9_64 : ∀ ci ∈ [7], ∃ rr : vw_C, gCl[ci]? = some rr ∧ GoodIn lw_all (va_wsU "BitingDoors$SentenceReader" 64 rr.1 "BitingDoors$Reader" ⟨"BitingDoors$SentenceReader", "is", "(Ljava/lang/String;)Z"⟩ yX6_is (ws_ yX6_is cX6_is 3 (some .boolean))) := by
  intro ci hc
  simp only [List.mem_cons, List.not_mem_nil, or_false] at hc
  subst hc
  refine ⟨_, gCl_X9, lw_app (fun w hw => ?_) (lw_meth q710)⟩
  simp only [List.mem_cons, List.not_mem_nil, or_false] at hw
  rcases hw with e | e | e | e | e
  · rw [e]; exact q1456
  · rw [e]; exact q1457
  · rw [e]; exact q1458
  · rw [e]; exact q705
  · rw [e]; exact q116
theorem nw_X9_71 : gNw "BitingDoors$SentenceReader" 71 20 2 [.null, .null] := ⟨RX25, TX25, tyX25, gCl_X25, in_X25, tyX25_ok, q1547, q1548, q145, by decide, rfl⟩
theorem dn_X9_any : yX9_any.cls ≠ "java/lang/invoke/MethodHandle" ∧ yX9_any.cls ≠ "java/lang/invoke/VarHandle" ∧ (parseMethodDescriptor yX9_any.desc).map (fun d => d.parameters.length) = some 1 := by decide +kernel
noncomputable def B_X9_any (Rc : Nat → Nat → Int32 → Mo (Nat ⊕ Nat)) (t : Nat) (p1 : Int32) : Mo (Nat ⊕ Nat) := Mo.bind (Rc 1 t p1) (fun w => Mo.cs w (fun b => Mo.pure (Sum.inl b)) (fun v1 => Mo.loop (S := Nat) (fun s2 => Mo.bind (Mo.bind (chk [7] t) (fun _ => M_X6_is t 42)) (fun v5 => cond v5 (Mo.bind (Mo.bind (chk [7] t) (fun _ => M_X6_next t)) (fun v6 => Mo.bind (nw 20 2 [.null, .null]) (fun q7 => Mo.bind (Rc 1 t p1) (fun w => Mo.cs w (fun b => Mo.pure (Sum.inr (Sum.inl b))) (fun v8 => Mo.bind (M_X25_init q7 s2 v8) (fun v9 => Mo.pure (Sum.inl q7))))))) (Mo.pure (Sum.inr (Sum.inr s2))))) v1))
def dkwX9_both_1 : List UInt8 := [42, 27, 182, 0, 76, 183, 0, 83, 77, 167, 255, 229, 44, 176]
abbrev dktX9_both_1 : List UInt8 := dkwX9_both_1 ++ []
def dkwX9_both_0 : List UInt8 := [42, 27, 182, 0, 76, 77, 42, 18, 79, 182, 0, 64, 153, 0, 24, 42, 182, 0, 68, 187, 0, 81, 89, 44]
abbrev dktX9_both_0 : List UInt8 := dkwX9_both_0 ++ dktX9_both_1
theorem dksX9_both_0 : cX9_both.data.toList.drop 0 = dktX9_both_0 := by decide +kernel
theorem dksX9_both_1 : cX9_both.data.toList.drop 24 = dktX9_both_1 := dk_seg dksX9_both_0 24 rfl rfl
theorem dX9_both_0 : decode cX9_both 0 = .ok (.aload_n 0, 1) := dk_42 (dk_at dksX9_both_0 0 rfl rfl)
theorem dX9_both_1 : decode cX9_both 1 = .ok (.iload_n 1, 1) := dk_27 (dk_at dksX9_both_0 1 rfl rfl)
theorem dX9_both_2 : decode cX9_both 2 = .ok (.invokevirtual 76, 3) := dk_182 0 76 (dk_at dksX9_both_0 2 rfl rfl)
theorem dX9_both_5 : decode cX9_both 5 = .ok (.astore_n 2, 1) := dk_77 (dk_at dksX9_both_0 5 rfl rfl)
theorem dX9_both_6 : decode cX9_both 6 = .ok (.aload_n 0, 1) := dk_42 (dk_at dksX9_both_0 6 rfl rfl)
theorem dX9_both_7 : decode cX9_both 7 = .ok (.ldc 79, 2) := dk_18 79 (dk_at dksX9_both_0 7 rfl rfl)
theorem dX9_both_9 : decode cX9_both 9 = .ok (.invokevirtual 64, 3) := dk_182 0 64 (dk_at dksX9_both_0 9 rfl rfl)
theorem dX9_both_12 : decode cX9_both 12 = .ok (.ifCond .eq 24, 3) := dk_153 0 24 (dk_at dksX9_both_0 12 rfl rfl)
theorem dX9_both_15 : decode cX9_both 15 = .ok (.aload_n 0, 1) := dk_42 (dk_at dksX9_both_0 15 rfl rfl)
theorem dX9_both_16 : decode cX9_both 16 = .ok (.invokevirtual 68, 3) := dk_182 0 68 (dk_at dksX9_both_0 16 rfl rfl)
theorem dX9_both_19 : decode cX9_both 19 = .ok (.new 81, 3) := dk_187 0 81 (dk_at dksX9_both_0 19 rfl rfl)
theorem dX9_both_22 : decode cX9_both 22 = .ok (.dup, 1) := dk_89 (dk_at dksX9_both_0 22 rfl rfl)
theorem dX9_both_23 : decode cX9_both 23 = .ok (.aload_n 2, 1) := dk_44 (dk_at dksX9_both_0 23 rfl rfl)
theorem dX9_both_24 : decode cX9_both 24 = .ok (.aload_n 0, 1) := dk_42 (dk_at dksX9_both_1 0 rfl rfl)
theorem dX9_both_25 : decode cX9_both 25 = .ok (.iload_n 1, 1) := dk_27 (dk_at dksX9_both_1 1 rfl rfl)
theorem dX9_both_26 : decode cX9_both 26 = .ok (.invokevirtual 76, 3) := dk_182 0 76 (dk_at dksX9_both_1 2 rfl rfl)
theorem dX9_both_29 : decode cX9_both 29 = .ok (.invokespecial 83, 3) := dk_183 0 83 (dk_at dksX9_both_1 5 rfl rfl)
theorem dX9_both_32 : decode cX9_both 32 = .ok (.astore_n 2, 1) := dk_77 (dk_at dksX9_both_1 8 rfl rfl)
theorem dX9_both_33 : decode cX9_both 33 = .ok (.goto (-27), 3) := dk_167 255 229 (dk_at dksX9_both_1 9 rfl rfl)
theorem dX9_both_36 : decode cX9_both 36 = .ok (.aload_n 2, 1) := dk_44 (dk_at dksX9_both_1 12 rfl rfl)
theorem dX9_both_37 : decode cX9_both 37 = .ok (.areturn, 1) := dk_176 (dk_at dksX9_both_1 13 rfl rfl)
theorem nw_X9_81 : gNw "BitingDoors$SentenceReader" 81 19 2 [.null, .null] := ⟨RX24, TX24, tyX24, gCl_X24, in_X24, tyX24_ok, q1533, q1534, q144, by decide, rfl⟩
theorem dn_X9_both : yX9_both.cls ≠ "java/lang/invoke/MethodHandle" ∧ yX9_both.cls ≠ "java/lang/invoke/VarHandle" ∧ (parseMethodDescriptor yX9_both.desc).map (fun d => d.parameters.length) = some 1 := by decide +kernel
noncomputable def B_X9_both (Rc : Nat → Nat → Int32 → Mo (Nat ⊕ Nat)) (t : Nat) (p1 : Int32) : Mo (Nat ⊕ Nat) := Mo.bind (Rc 2 t p1) (fun w => Mo.cs w (fun b => Mo.pure (Sum.inl b)) (fun v1 => Mo.loop (S := Nat) (fun s2 => Mo.bind (Mo.bind (chk [7] t) (fun _ => M_X6_is t 41)) (fun v5 => cond v5 (Mo.bind (Mo.bind (chk [7] t) (fun _ => M_X6_next t)) (fun v6 => Mo.bind (nw 19 2 [.null, .null]) (fun q7 => Mo.bind (Rc 2 t p1) (fun w => Mo.cs w (fun b => Mo.pure (Sum.inr (Sum.inl b))) (fun v8 => Mo.bind (M_X24_init q7 s2 v8) (fun v9 => Mo.pure (Sum.inl q7))))))) (Mo.pure (Sum.inr (Sum.inr s2))))) v1))
def dkwX9_single_8 : List UInt8 := [159, 0, 15, 187, 0, 122, 89, 21, 5, 183, 0, 124, 167, 0, 9, 42, 21, 6, 182, 0, 125, 176]
abbrev dktX9_single_8 : List UInt8 := dkwX9_single_8 ++ []
def dkwX9_single_7 : List UInt8 := [89, 42, 42, 180, 0, 3, 180, 0, 106, 180, 0, 110, 182, 0, 116, 183, 0, 120, 176, 21, 5, 2]
abbrev dktX9_single_7 : List UInt8 := dkwX9_single_7 ++ dktX9_single_8
def dkwX9_single_6 : List UInt8 := [4, 96, 182, 0, 48, 58, 7, 42, 16, 41, 182, 0, 100, 25, 7, 176, 21, 4, 153, 0, 25, 187, 0, 104]
abbrev dktX9_single_6 : List UInt8 := dkwX9_single_6 ++ dktX9_single_7
def dkwX9_single_5 : List UInt8 := [153, 0, 18, 187, 0, 95, 89, 42, 27, 4, 96, 182, 0, 76, 183, 0, 97, 176, 29, 153, 0, 21, 42, 27]
abbrev dktX9_single_5 : List UInt8 := dkwX9_single_5 ++ dktX9_single_6
def dkwX9_single_4 : List UInt8 := [167, 0, 4, 3, 7, 182, 0, 55, 42, 89, 180, 0, 40, 4, 96, 181, 0, 40, 42, 182, 0, 68, 28]
abbrev dktX9_single_4 : List UInt8 := dkwX9_single_4 ++ dktX9_single_5
def dkwX9_single_3 : List UInt8 := [3, 4, 182, 0, 55, 42, 42, 180, 0, 40, 16, 20, 162, 0, 13, 27, 16, 8, 163, 0, 7, 4]
abbrev dktX9_single_3 : List UInt8 := dkwX9_single_3 ++ dktX9_single_4
def dkwX9_single_2 : List UInt8 := [154, 0, 20, 21, 4, 154, 0, 15, 21, 5, 2, 160, 0, 9, 21, 6, 2, 159, 0, 7, 4, 167, 0, 4]
abbrev dktX9_single_2 : List UInt8 := dkwX9_single_2 ++ dktX9_single_3
def dkwX9_single_1 : List UInt8 := [180, 0, 23, 182, 0, 91, 54, 5, 42, 42, 180, 0, 37, 182, 0, 91, 54, 6, 42, 28, 154, 0, 24, 29]
abbrev dktX9_single_1 : List UInt8 := dkwX9_single_1 ++ dktX9_single_2
def dkwX9_single_0 : List UInt8 := [42, 18, 84, 182, 0, 64, 61, 42, 16, 40, 182, 0, 86, 62, 42, 18, 89, 182, 0, 64, 54, 4, 42, 42]
abbrev dktX9_single_0 : List UInt8 := dkwX9_single_0 ++ dktX9_single_1
theorem dksX9_single_0 : cX9_single.data.toList.drop 0 = dktX9_single_0 := by decide +kernel
theorem dksX9_single_1 : cX9_single.data.toList.drop 24 = dktX9_single_1 := dk_seg dksX9_single_0 24 rfl rfl
theorem dksX9_single_2 : cX9_single.data.toList.drop 48 = dktX9_single_2 := dk_seg dksX9_single_1 24 rfl rfl
theorem dksX9_single_3 : cX9_single.data.toList.drop 72 = dktX9_single_3 := dk_seg dksX9_single_2 24 rfl rfl
theorem dksX9_single_4 : cX9_single.data.toList.drop 94 = dktX9_single_4 := dk_seg dksX9_single_3 22 rfl rfl
theorem dksX9_single_5 : cX9_single.data.toList.drop 117 = dktX9_single_5 := dk_seg dksX9_single_4 23 rfl rfl
theorem dksX9_single_6 : cX9_single.data.toList.drop 141 = dktX9_single_6 := dk_seg dksX9_single_5 24 rfl rfl
theorem dksX9_single_7 : cX9_single.data.toList.drop 165 = dktX9_single_7 := dk_seg dksX9_single_6 24 rfl rfl
theorem dksX9_single_8 : cX9_single.data.toList.drop 187 = dktX9_single_8 := dk_seg dksX9_single_7 22 rfl rfl
theorem dX9_single_0 : decode cX9_single 0 = .ok (.aload_n 0, 1) := dk_42 (dk_at dksX9_single_0 0 rfl rfl)
theorem dX9_single_1 : decode cX9_single 1 = .ok (.ldc 84, 2) := dk_18 84 (dk_at dksX9_single_0 1 rfl rfl)
theorem dX9_single_3 : decode cX9_single 3 = .ok (.invokevirtual 64, 3) := dk_182 0 64 (dk_at dksX9_single_0 3 rfl rfl)
theorem dX9_single_6 : decode cX9_single 6 = .ok (.istore_n 2, 1) := dk_61 (dk_at dksX9_single_0 6 rfl rfl)
theorem dX9_single_7 : decode cX9_single 7 = .ok (.aload_n 0, 1) := dk_42 (dk_at dksX9_single_0 7 rfl rfl)
theorem dX9_single_8 : decode cX9_single 8 = .ok (.bipush 40, 2) := dk_16 40 (dk_at dksX9_single_0 8 rfl rfl)
theorem dX9_single_10 : decode cX9_single 10 = .ok (.invokevirtual 86, 3) := dk_182 0 86 (dk_at dksX9_single_0 10 rfl rfl)
theorem dX9_single_13 : decode cX9_single 13 = .ok (.istore_n 3, 1) := dk_62 (dk_at dksX9_single_0 13 rfl rfl)
theorem dX9_single_14 : decode cX9_single 14 = .ok (.aload_n 0, 1) := dk_42 (dk_at dksX9_single_0 14 rfl rfl)
theorem dX9_single_15 : decode cX9_single 15 = .ok (.ldc 89, 2) := dk_18 89 (dk_at dksX9_single_0 15 rfl rfl)
theorem dX9_single_17 : decode cX9_single 17 = .ok (.invokevirtual 64, 3) := dk_182 0 64 (dk_at dksX9_single_0 17 rfl rfl)
theorem dX9_single_20 : decode cX9_single 20 = .ok (.istore 4, 2) := dk_54 4 (dk_at dksX9_single_0 20 rfl rfl)
theorem dX9_single_22 : decode cX9_single 22 = .ok (.aload_n 0, 1) := dk_42 (dk_at dksX9_single_0 22 rfl rfl)
theorem dX9_single_23 : decode cX9_single 23 = .ok (.aload_n 0, 1) := dk_42 (dk_at dksX9_single_0 23 rfl rfl)
theorem dX9_single_24 : decode cX9_single 24 = .ok (.getfield 23, 3) := dk_180 0 23 (dk_at dksX9_single_1 0 rfl rfl)
theorem dX9_single_27 : decode cX9_single 27 = .ok (.invokevirtual 91, 3) := dk_182 0 91 (dk_at dksX9_single_1 3 rfl rfl)
theorem dX9_single_30 : decode cX9_single 30 = .ok (.istore 5, 2) := dk_54 5 (dk_at dksX9_single_1 6 rfl rfl)
theorem dX9_single_32 : decode cX9_single 32 = .ok (.aload_n 0, 1) := dk_42 (dk_at dksX9_single_1 8 rfl rfl)
theorem dX9_single_33 : decode cX9_single 33 = .ok (.aload_n 0, 1) := dk_42 (dk_at dksX9_single_1 9 rfl rfl)
theorem dX9_single_34 : decode cX9_single 34 = .ok (.getfield 37, 3) := dk_180 0 37 (dk_at dksX9_single_1 10 rfl rfl)
theorem dX9_single_37 : decode cX9_single 37 = .ok (.invokevirtual 91, 3) := dk_182 0 91 (dk_at dksX9_single_1 13 rfl rfl)
theorem dX9_single_40 : decode cX9_single 40 = .ok (.istore 6, 2) := dk_54 6 (dk_at dksX9_single_1 16 rfl rfl)
theorem dX9_single_42 : decode cX9_single 42 = .ok (.aload_n 0, 1) := dk_42 (dk_at dksX9_single_1 18 rfl rfl)
theorem dX9_single_43 : decode cX9_single 43 = .ok (.iload_n 2, 1) := dk_28 (dk_at dksX9_single_1 19 rfl rfl)
theorem dX9_single_44 : decode cX9_single 44 = .ok (.ifCond .ne 24, 3) := dk_154 0 24 (dk_at dksX9_single_1 20 rfl rfl)
theorem dX9_single_47 : decode cX9_single 47 = .ok (.iload_n 3, 1) := dk_29 (dk_at dksX9_single_1 23 rfl rfl)
theorem dX9_single_48 : decode cX9_single 48 = .ok (.ifCond .ne 20, 3) := dk_154 0 20 (dk_at dksX9_single_2 0 rfl rfl)
theorem dX9_single_51 : decode cX9_single 51 = .ok (.iload 4, 2) := dk_21 4 (dk_at dksX9_single_2 3 rfl rfl)
theorem dX9_single_53 : decode cX9_single 53 = .ok (.ifCond .ne 15, 3) := dk_154 0 15 (dk_at dksX9_single_2 5 rfl rfl)
theorem dX9_single_56 : decode cX9_single 56 = .ok (.iload 5, 2) := dk_21 5 (dk_at dksX9_single_2 8 rfl rfl)
theorem dX9_single_58 : decode cX9_single 58 = .ok (.iconst (-1), 1) := dk_2 (dk_at dksX9_single_2 10 rfl rfl)
theorem dX9_single_59 : decode cX9_single 59 = .ok (.if_icmp .ne 9, 3) := dk_160 0 9 (dk_at dksX9_single_2 11 rfl rfl)
theorem dX9_single_62 : decode cX9_single 62 = .ok (.iload 6, 2) := dk_21 6 (dk_at dksX9_single_2 14 rfl rfl)
theorem dX9_single_64 : decode cX9_single 64 = .ok (.iconst (-1), 1) := dk_2 (dk_at dksX9_single_2 16 rfl rfl)
theorem dX9_single_65 : decode cX9_single 65 = .ok (.if_icmp .eq 7, 3) := dk_159 0 7 (dk_at dksX9_single_2 17 rfl rfl)
theorem dX9_single_68 : decode cX9_single 68 = .ok (.iconst 1, 1) := dk_4 (dk_at dksX9_single_2 20 rfl rfl)
theorem dX9_single_69 : decode cX9_single 69 = .ok (.goto 4, 3) := dk_167 0 4 (dk_at dksX9_single_2 21 rfl rfl)
theorem dX9_single_72 : decode cX9_single 72 = .ok (.iconst 0, 1) := dk_3 (dk_at dksX9_single_3 0 rfl rfl)
theorem dX9_single_73 : decode cX9_single 73 = .ok (.iconst 1, 1) := dk_4 (dk_at dksX9_single_3 1 rfl rfl)
theorem dX9_single_74 : decode cX9_single 74 = .ok (.invokevirtual 55, 3) := dk_182 0 55 (dk_at dksX9_single_3 2 rfl rfl)
theorem dX9_single_77 : decode cX9_single 77 = .ok (.aload_n 0, 1) := dk_42 (dk_at dksX9_single_3 5 rfl rfl)
theorem dX9_single_78 : decode cX9_single 78 = .ok (.aload_n 0, 1) := dk_42 (dk_at dksX9_single_3 6 rfl rfl)
theorem dX9_single_79 : decode cX9_single 79 = .ok (.getfield 40, 3) := dk_180 0 40 (dk_at dksX9_single_3 7 rfl rfl)
theorem dX9_single_82 : decode cX9_single 82 = .ok (.bipush 20, 2) := dk_16 20 (dk_at dksX9_single_3 10 rfl rfl)
theorem dX9_single_84 : decode cX9_single 84 = .ok (.if_icmp .ge 13, 3) := dk_162 0 13 (dk_at dksX9_single_3 12 rfl rfl)
theorem dX9_single_87 : decode cX9_single 87 = .ok (.iload_n 1, 1) := dk_27 (dk_at dksX9_single_3 15 rfl rfl)
theorem dX9_single_88 : decode cX9_single 88 = .ok (.bipush 8, 2) := dk_16 8 (dk_at dksX9_single_3 16 rfl rfl)
theorem dX9_single_90 : decode cX9_single 90 = .ok (.if_icmp .gt 7, 3) := dk_163 0 7 (dk_at dksX9_single_3 18 rfl rfl)
theorem dX9_single_93 : decode cX9_single 93 = .ok (.iconst 1, 1) := dk_4 (dk_at dksX9_single_3 21 rfl rfl)
theorem dX9_single_94 : decode cX9_single 94 = .ok (.goto 4, 3) := dk_167 0 4 (dk_at dksX9_single_4 0 rfl rfl)
theorem dX9_single_97 : decode cX9_single 97 = .ok (.iconst 0, 1) := dk_3 (dk_at dksX9_single_4 3 rfl rfl)
theorem dX9_single_98 : decode cX9_single 98 = .ok (.iconst 4, 1) := dk_7 (dk_at dksX9_single_4 4 rfl rfl)
theorem dX9_single_99 : decode cX9_single 99 = .ok (.invokevirtual 55, 3) := dk_182 0 55 (dk_at dksX9_single_4 5 rfl rfl)
theorem dX9_single_102 : decode cX9_single 102 = .ok (.aload_n 0, 1) := dk_42 (dk_at dksX9_single_4 8 rfl rfl)
theorem dX9_single_103 : decode cX9_single 103 = .ok (.dup, 1) := dk_89 (dk_at dksX9_single_4 9 rfl rfl)
theorem dX9_single_104 : decode cX9_single 104 = .ok (.getfield 40, 3) := dk_180 0 40 (dk_at dksX9_single_4 10 rfl rfl)
theorem dX9_single_107 : decode cX9_single 107 = .ok (.iconst 1, 1) := dk_4 (dk_at dksX9_single_4 13 rfl rfl)
theorem dX9_single_108 : decode cX9_single 108 = .ok (.iadd, 1) := dk_96 (dk_at dksX9_single_4 14 rfl rfl)
theorem dX9_single_109 : decode cX9_single 109 = .ok (.putfield 40, 3) := dk_181 0 40 (dk_at dksX9_single_4 15 rfl rfl)
theorem dX9_single_112 : decode cX9_single 112 = .ok (.aload_n 0, 1) := dk_42 (dk_at dksX9_single_4 18 rfl rfl)
theorem dX9_single_113 : decode cX9_single 113 = .ok (.invokevirtual 68, 3) := dk_182 0 68 (dk_at dksX9_single_4 19 rfl rfl)
theorem dX9_single_116 : decode cX9_single 116 = .ok (.iload_n 2, 1) := dk_28 (dk_at dksX9_single_4 22 rfl rfl)
theorem dX9_single_117 : decode cX9_single 117 = .ok (.ifCond .eq 18, 3) := dk_153 0 18 (dk_at dksX9_single_5 0 rfl rfl)
theorem dX9_single_120 : decode cX9_single 120 = .ok (.new 95, 3) := dk_187 0 95 (dk_at dksX9_single_5 3 rfl rfl)
theorem dX9_single_123 : decode cX9_single 123 = .ok (.dup, 1) := dk_89 (dk_at dksX9_single_5 6 rfl rfl)
theorem dX9_single_124 : decode cX9_single 124 = .ok (.aload_n 0, 1) := dk_42 (dk_at dksX9_single_5 7 rfl rfl)
theorem dX9_single_125 : decode cX9_single 125 = .ok (.iload_n 1, 1) := dk_27 (dk_at dksX9_single_5 8 rfl rfl)
theorem dX9_single_126 : decode cX9_single 126 = .ok (.iconst 1, 1) := dk_4 (dk_at dksX9_single_5 9 rfl rfl)
theorem dX9_single_127 : decode cX9_single 127 = .ok (.iadd, 1) := dk_96 (dk_at dksX9_single_5 10 rfl rfl)
theorem dX9_single_128 : decode cX9_single 128 = .ok (.invokevirtual 76, 3) := dk_182 0 76 (dk_at dksX9_single_5 11 rfl rfl)
theorem dX9_single_131 : decode cX9_single 131 = .ok (.invokespecial 97, 3) := dk_183 0 97 (dk_at dksX9_single_5 14 rfl rfl)
theorem dX9_single_134 : decode cX9_single 134 = .ok (.areturn, 1) := dk_176 (dk_at dksX9_single_5 17 rfl rfl)
theorem dX9_single_135 : decode cX9_single 135 = .ok (.iload_n 3, 1) := dk_29 (dk_at dksX9_single_5 18 rfl rfl)
theorem dX9_single_136 : decode cX9_single 136 = .ok (.ifCond .eq 21, 3) := dk_153 0 21 (dk_at dksX9_single_5 19 rfl rfl)
theorem dX9_single_139 : decode cX9_single 139 = .ok (.aload_n 0, 1) := dk_42 (dk_at dksX9_single_5 22 rfl rfl)
theorem dX9_single_140 : decode cX9_single 140 = .ok (.iload_n 1, 1) := dk_27 (dk_at dksX9_single_5 23 rfl rfl)
theorem dX9_single_141 : decode cX9_single 141 = .ok (.iconst 1, 1) := dk_4 (dk_at dksX9_single_6 0 rfl rfl)
theorem dX9_single_142 : decode cX9_single 142 = .ok (.iadd, 1) := dk_96 (dk_at dksX9_single_6 1 rfl rfl)
theorem dX9_single_143 : decode cX9_single 143 = .ok (.invokevirtual 48, 3) := dk_182 0 48 (dk_at dksX9_single_6 2 rfl rfl)
theorem dX9_single_146 : decode cX9_single 146 = .ok (.astore 7, 2) := dk_58 7 (dk_at dksX9_single_6 5 rfl rfl)
theorem dX9_single_148 : decode cX9_single 148 = .ok (.aload_n 0, 1) := dk_42 (dk_at dksX9_single_6 7 rfl rfl)
theorem dX9_single_149 : decode cX9_single 149 = .ok (.bipush 41, 2) := dk_16 41 (dk_at dksX9_single_6 8 rfl rfl)
theorem dX9_single_151 : decode cX9_single 151 = .ok (.invokevirtual 100, 3) := dk_182 0 100 (dk_at dksX9_single_6 10 rfl rfl)
theorem dX9_single_154 : decode cX9_single 154 = .ok (.aload 7, 2) := dk_25 7 (dk_at dksX9_single_6 13 rfl rfl)
theorem dX9_single_156 : decode cX9_single 156 = .ok (.areturn, 1) := dk_176 (dk_at dksX9_single_6 15 rfl rfl)
theorem dX9_single_157 : decode cX9_single 157 = .ok (.iload 4, 2) := dk_21 4 (dk_at dksX9_single_6 16 rfl rfl)
theorem dX9_single_159 : decode cX9_single 159 = .ok (.ifCond .eq 25, 3) := dk_153 0 25 (dk_at dksX9_single_6 18 rfl rfl)
theorem dX9_single_162 : decode cX9_single 162 = .ok (.new 104, 3) := dk_187 0 104 (dk_at dksX9_single_6 21 rfl rfl)
theorem dX9_single_165 : decode cX9_single 165 = .ok (.dup, 1) := dk_89 (dk_at dksX9_single_7 0 rfl rfl)
theorem dX9_single_166 : decode cX9_single 166 = .ok (.aload_n 0, 1) := dk_42 (dk_at dksX9_single_7 1 rfl rfl)
theorem dX9_single_167 : decode cX9_single 167 = .ok (.aload_n 0, 1) := dk_42 (dk_at dksX9_single_7 2 rfl rfl)
theorem dX9_single_168 : decode cX9_single 168 = .ok (.getfield 3, 3) := dk_180 0 3 (dk_at dksX9_single_7 3 rfl rfl)
theorem dX9_single_171 : decode cX9_single 171 = .ok (.getfield 106, 3) := dk_180 0 106 (dk_at dksX9_single_7 6 rfl rfl)
theorem dX9_single_174 : decode cX9_single 174 = .ok (.getfield 110, 3) := dk_180 0 110 (dk_at dksX9_single_7 9 rfl rfl)
theorem dX9_single_177 : decode cX9_single 177 = .ok (.invokevirtual 116, 3) := dk_182 0 116 (dk_at dksX9_single_7 12 rfl rfl)
theorem dX9_single_180 : decode cX9_single 180 = .ok (.invokespecial 120, 3) := dk_183 0 120 (dk_at dksX9_single_7 15 rfl rfl)
theorem dX9_single_183 : decode cX9_single 183 = .ok (.areturn, 1) := dk_176 (dk_at dksX9_single_7 18 rfl rfl)
theorem dX9_single_184 : decode cX9_single 184 = .ok (.iload 5, 2) := dk_21 5 (dk_at dksX9_single_7 19 rfl rfl)
theorem dX9_single_186 : decode cX9_single 186 = .ok (.iconst (-1), 1) := dk_2 (dk_at dksX9_single_7 21 rfl rfl)
theorem dX9_single_187 : decode cX9_single 187 = .ok (.if_icmp .eq 15, 3) := dk_159 0 15 (dk_at dksX9_single_8 0 rfl rfl)
theorem dX9_single_190 : decode cX9_single 190 = .ok (.new 122, 3) := dk_187 0 122 (dk_at dksX9_single_8 3 rfl rfl)
theorem dX9_single_193 : decode cX9_single 193 = .ok (.dup, 1) := dk_89 (dk_at dksX9_single_8 6 rfl rfl)
theorem dX9_single_194 : decode cX9_single 194 = .ok (.iload 5, 2) := dk_21 5 (dk_at dksX9_single_8 7 rfl rfl)
theorem dX9_single_196 : decode cX9_single 196 = .ok (.invokespecial 124, 3) := dk_183 0 124 (dk_at dksX9_single_8 9 rfl rfl)
theorem dX9_single_199 : decode cX9_single 199 = .ok (.goto 9, 3) := dk_167 0 9 (dk_at dksX9_single_8 12 rfl rfl)
theorem dX9_single_202 : decode cX9_single 202 = .ok (.aload_n 0, 1) := dk_42 (dk_at dksX9_single_8 15 rfl rfl)
theorem dX9_single_203 : decode cX9_single 203 = .ok (.iload 6, 2) := dk_21 6 (dk_at dksX9_single_8 16 rfl rfl)
theorem dX9_single_205 : decode cX9_single 205 = .ok (.invokevirtual 125, 3) := dk_182 0 125 (dk_at dksX9_single_8 18 rfl rfl)
theorem dX9_single_208 : decode cX9_single 208 = .ok (.areturn, 1) := dk_176 (dk_at dksX9_single_8 21 rfl rfl)
theorem fl_X9_106 : gFl "BitingDoors$SentenceReader" 106 [0] 9 := by
  intro args s hts hN ci hc
  simp only [List.mem_cons, List.not_mem_nil, or_false] at hc
  subst hc
  exact ⟨RX1, TX1, 46, "BitingDoors", gCl_X1, in_X1, by decide, Or.inr ⟨"BitingDoors", va_Nw.use rfl (hN.1 ("BitingDoors$SentenceReader", 106, "BitingDoors", "now", "LBitingDoors$Walker;", "BitingDoors") (List.mem_of_getElem? (i := 64) rfl))⟩, fun _ h => h⟩
theorem fl_X9_110 : gFl "BitingDoors$SentenceReader" 110 [2] 0 := by
  intro args s hts hN ci hc
  simp only [List.mem_cons, List.not_mem_nil, or_false] at hc
  subst hc
  exact ⟨RX3, TX3, 6, "BitingDoors$Walker", gCl_X3, in_X3, by decide, Or.inr ⟨"BitingDoors", va_Nw.use rfl (hN.1 ("BitingDoors$SentenceReader", 110, "BitingDoors$Walker", "house", "LBitingDoors$House;", "BitingDoors") (List.mem_of_getElem? (i := 63) rfl))⟩, fun _ h => h⟩
theorem fl_X9_23 : gFl "BitingDoors$SentenceReader" 23 [7] 8 := by
  intro args s hts hN ci hc
  simp only [List.mem_cons, List.not_mem_nil, or_false] at hc
  subst hc
  exact ⟨RX9, TX9, 12, "BitingDoors$SentenceReader", gCl_X9, in_X9, by decide, Or.inl (hts _ q465), fun _ h => h⟩
theorem fl_X9_3 : gFl "BitingDoors$SentenceReader" 3 [7] 11 := by
  intro args s hts hN ci hc
  simp only [List.mem_cons, List.not_mem_nil, or_false] at hc
  subst hc
  exact ⟨RX9, TX9, 12, "BitingDoors$SentenceReader", gCl_X9, in_X9, by decide, Or.inl (hts _ q469), fun _ h => h⟩
theorem fl_X9_37 : gFl "BitingDoors$SentenceReader" 37 [7] 9 := by
  intro args s hts hN ci hc
  simp only [List.mem_cons, List.not_mem_nil, or_false] at hc
  subst hc
  exact ⟨RX9, TX9, 12, "BitingDoors$SentenceReader", gCl_X9, in_X9, by decide, Or.inl (hts _ q466), fun _ h => h⟩
theorem fl_X9_40 : gFl "BitingDoors$SentenceReader" 40 [7] 10 := by
  intro args s hts hN ci hc
  simp only [List.mem_cons, List.not_mem_nil, or_false] at hc
  subst hc
  exact ⟨RX9, TX9, 12, "BitingDoors$SentenceReader", gCl_X9, in_X9, by decide, Or.inl (hts _ q467), fun _ h => h⟩
theorem fp_X9_40 {nm : String} : gFp "BitingDoors$SentenceReader" nm 40 [7] 10 .int := by
  intro args s hts hN ci hc
  simp only [List.mem_cons, List.not_mem_nil, or_false] at hc
  subst hc
  exact ⟨RX9, TX9, 12, "BitingDoors$SentenceReader", gCl_X9, in_X9, by decide, Or.inl ⟨rfl, Or.inl (hts _ q467)⟩, fun _ h => h, rfl, fun D tys hK => gap_X9 hts hK⟩
theorem hu_X9_100 : ∀ ci ∈ [7], ∃ rr : vw_C, gCl[ci]? = some rr ∧ GoodIn lw_all (va_wsU "BitingDoors$SentenceReader" 100 rr.1 "BitingDoors$Reader" ⟨"BitingDoors$SentenceReader", "sign", "(I)V"⟩ yX6_sign (ws_ yX6_sign cX6_sign 2 none)) := by
  intro ci hc
  simp only [List.mem_cons, List.not_mem_nil, or_false] at hc
  subst hc
  refine ⟨_, gCl_X9, lw_app (fun w hw => ?_) (lw_meth q912)⟩
  simp only [List.mem_cons, List.not_mem_nil, or_false] at hw
  rcases hw with e | e | e | e | e
  · rw [e]; exact q1486
  · rw [e]; exact q1487
  · rw [e]; exact q1488
  · rw [e]; exact q911
  · rw [e]; exact q116
theorem hu_X9_116 : ∀ ci ∈ [7], ∃ rr : vw_C, gCl[ci]? = some rr ∧ GoodIn lw_all (va_wsU "BitingDoors$SentenceReader" 116 rr.1 "BitingDoors$Reader" ⟨"BitingDoors$SentenceReader", "known", "(LBitingDoors$House;)I"⟩ yX6_known (ws_ yX6_known cX6_known 3 (some .int))) := by
  intro ci hc
  simp only [List.mem_cons, List.not_mem_nil, or_false] at hc
  subst hc
  refine ⟨_, gCl_X9, lw_app (fun w hw => ?_) (lw_meth q1067)⟩
  simp only [List.mem_cons, List.not_mem_nil, or_false] at hw
  rcases hw with e | e | e | e | e
  · rw [e]; exact q1491
  · rw [e]; exact q1492
  · rw [e]; exact q1493
  · rw [e]; exact q1066
  · rw [e]; exact q116
theorem hu_X9_91 : ∀ ci ∈ [7], ∃ rr : vw_C, gCl[ci]? = some rr ∧ GoodIn lw_all (va_wsU "BitingDoors$SentenceReader" 91 rr.1 "BitingDoors$Reader" ⟨"BitingDoors$SentenceReader", "find", "([Ljava/lang/String;)I"⟩ yX6_find (ws_ yX6_find cX6_find 3 (some .int))) := by
  intro ci hc
  simp only [List.mem_cons, List.not_mem_nil, or_false] at hc
  subst hc
  refine ⟨_, gCl_X9, lw_app (fun w hw => ?_) (lw_meth q703)⟩
  simp only [List.mem_cons, List.not_mem_nil, or_false] at hw
  rcases hw with e | e | e | e | e
  · rw [e]; exact q1464
  · rw [e]; exact q1465
  · rw [e]; exact q1466
  · rw [e]; exact q702
  · rw [e]; exact q116
theorem nw_X9_104 : gNw "BitingDoors$SentenceReader" 104 16 1 [.int 0] := ⟨RX21, TX21, tyX21, gCl_X21, in_X21, tyX21_ok, q1489, q1490, q141, by decide, rfl⟩
theorem nw_X9_122 : gNw "BitingDoors$SentenceReader" 122 17 1 [.int 0] := ⟨RX22, TX22, tyX22, gCl_X22, in_X22, tyX22_ok, q1502, q1503, q142, by decide, rfl⟩
theorem nw_X9_95 : gNw "BitingDoors$SentenceReader" 95 15 1 [.null] := ⟨RX20, TX20, tyX20, gCl_X20, in_X20, tyX20_ok, q1473, q1474, q140, by decide, rfl⟩
theorem dn_X9_single : yX9_single.cls ≠ "java/lang/invoke/MethodHandle" ∧ yX9_single.cls ≠ "java/lang/invoke/VarHandle" ∧ (parseMethodDescriptor yX9_single.desc).map (fun d => d.parameters.length) = some 1 := by decide +kernel
noncomputable def B_X9_single (Rc : Nat → Nat → Int32 → Mo (Nat ⊕ Nat)) (t : Nat) (p1 : Int32) : Mo (Nat ⊕ Nat) := Mo.bind (Mo.bind (chk [7] t) (fun _ => M_X6_is t 39)) (fun v1 => Mo.bind (Mo.bind (chk [7] t) (fun _ => M_X6_is_2 t 40)) (fun v2 => Mo.bind (Mo.bind (chk [7] t) (fun _ => M_X6_is t 40)) (fun v3 => Mo.bind (gR [7] t 8) (fun v4 => Mo.bind (Mo.bind (chk [7] t) (fun _ => M_X6_find t v4)) (fun v5 => Mo.bind (gR [7] t 9) (fun v6 => Mo.bind (Mo.bind (chk [7] t) (fun _ => M_X6_find t v6)) (fun v7 => Mo.bind ((cond v1 (Mo.pure true) (cond v2 (Mo.pure true) (cond v3 (Mo.pure true) (if v5 = (-1) then if v7 = (-1) then Mo.pure false else Mo.pure true else Mo.pure true))) : Mo (Bool))) (fun u8 => Mo.bind (Mo.bind (chk [7] t) (fun _ => M_X6_must t u8 1)) (fun w => Mo.cs w (fun b => Mo.pure (Sum.inl b)) (fun v9 => Mo.bind (gI [7] t 10) (fun v10 => Mo.bind ((if 20 ≤ v10 then Mo.pure false else if 8 < p1 then Mo.pure false else Mo.pure true : Mo (Bool))) (fun u11 => Mo.bind (Mo.bind (chk [7] t) (fun _ => M_X6_must t u11 4)) (fun w => Mo.cs w (fun b => Mo.pure (Sum.inl b)) (fun v12 => Mo.bind (gI [7] t 10) (fun v13 => Mo.bind (pF [7] t 10 (.int (v13 + 1))) (fun _ => Mo.bind (Mo.bind (chk [7] t) (fun _ => M_X6_next t)) (fun v14 => cond v1 (Mo.bind (nw 15 1 [.null]) (fun q26 => Mo.bind (Rc 2 t (p1 + 1)) (fun w => Mo.cs w (fun b => Mo.pure (Sum.inl b)) (fun v27 => Mo.bind (M_X20_init q26 v27) (fun v28 => Mo.pure (Sum.inr q26)))))) (cond v2 (Mo.bind (Rc 0 t (p1 + 1)) (fun w => Mo.cs w (fun b => Mo.pure (Sum.inl b)) (fun v24 => Mo.bind (Mo.bind (chk [7] t) (fun _ => M_X6_sign t 41)) (fun w => Mo.cs w (fun b => Mo.pure (Sum.inl b)) (fun v25 => Mo.pure (Sum.inr v24)))))) (cond v3 (Mo.bind (nw 16 1 [.int 0]) (fun q18 => Mo.bind (gR [7] t 11) (fun v19 => Mo.bind (gR [0] v19 9) (fun v20 => Mo.bind (gR [2] v20 0) (fun v21 => Mo.bind (Mo.bind (chk [7] t) (fun _ => M_X6_known t v21)) (fun w => Mo.cs w (fun b => Mo.pure (Sum.inl b)) (fun v22 => Mo.bind (M_X21_init q18 v22) (fun v23 => Mo.pure (Sum.inr q18))))))))) (if v5 = (-1) then Mo.bind (M_X9_counts t v7) (fun w => Mo.cs w (fun b => Mo.pure (Sum.inl b)) (fun v15 => Mo.pure (Sum.inr v15))) else Mo.bind (nw 17 1 [.int 0]) (fun q16 => Mo.bind (M_X22_init q16 v5) (fun v17 => Mo.pure (Sum.inr q16)))))))))))))))))))))))
noncomputable def N_X9 : Nat → Nat → Nat → Int32 → Mo (Nat ⊕ Nat)
  | 0 => fun _ _ _ => Mo.fail
  | n + 1 => fun k t p1 => match k with
    | 0 => B_X9_any (fun j t p1 => Mo.bind (chk [7] t) (fun _ => N_X9 n j t p1)) t p1
    | 1 => B_X9_both (fun j t p1 => Mo.bind (chk [7] t) (fun _ => N_X9 n j t p1)) t p1
    | _ => B_X9_single (fun j t p1 => Mo.bind (chk [7] t) (fun _ => N_X9 n j t p1)) t p1
noncomputable def C_X9 (n k t : Nat) (p1 : Int32) : Mo (Nat ⊕ Nat) := Mo.bind (chk [7] t) (fun _ => N_X9 n k t p1)
set_option maxHeartbeats 4000000 in
theorem st_X9_any (G : gG) (n : Nat) (ih1 : ∀ (t : Nat) (p1 : Int32), gCx G yX9_both cX9_both 3 (some (.object "BitingDoors$Cond")) (8 + n) (171 + n * 27) [.ref t, .int p1] (C_X9 n 1 t p1) (fun x : Nat => some (.ref x))) : ∀ (t : Nat) (p1 : Int32), gCx G yX9_any cX9_any 3 (some (.object "BitingDoors$Cond")) (8 + (n + 1)) (171 + (n + 1) * 27) [.ref t, .int p1] (C_X9 (n + 1) 0 t p1) (fun x : Nat => some (.ref x)) := by
  intro t p1
  refine gCx.of (by decide) (Nat.le_of_ble_eq_true rfl) (fun K r hG X hex hd ho => ?_)
  subst hG
  have X : gX K cX9_any 3 "BitingDoors$SentenceReader" "any" (some (.object "BitingDoors$Cond")) (8 + (n + 1)) (171 + (n + 1) * 27) := X
  have hle : gLe (kh1 K) (kh1 K) := gLe.rf
  show V K 3 (kh0 K) 0 [(0, .ref t), (1, .int p1)] []
  generalize kh0 K = h at hd ⊢
  have hd : (Mo.bind (chk [7] t) (fun _ => B_X9_any (C_X9 n) t p1)).1 h = some (r, kh1 K) := hd
  obtain ⟨-, hd⟩ := chk_some hd
  unfold B_X9_any at hd
  refine v_aload_n X dX9_any_0 0 0 rfl rfl ?_
  refine v_iload_n X dX9_any_1 1 1 rfl rfl ?_
  refine v_callVX X hd hle (ih1 t p1) gCl_X9 q1447 q1449 qs31 q119 q1450 dn_X9_both rfl ⟨by omega, by omega⟩ rfl (Nat.le_of_ble_eq_true rfl) dX9_any_2 (fun v1 h hd => ?_) (fun b h hd => ?_)
  · show V K 3 h 5 [(0, .ref t), (1, .int p1)] [.ref v1]
    have hd := cs_r hd
    refine v_astore_n (lv2 := [(2, .ref v1), (0, .ref t), (1, .int p1)]) X dX9_any_5 2 rfl (by decide) rfl ?_
    refine v_loc [1, 2, 0] rfl ?_
    refine loop_ind hd (fun (s2 : Nat) h => V K 3 h 6 [(0, .ref t), (1, .int p1), (2, .ref s2)] []) (fun s2 h x h2 hd hle0 ih3 ho4 => ?_)
    have hle := hle0.tr hle
    refine v_aload_n X dX9_any_6 0 0 rfl rfl ?_
    refine v_ldcS X 42 (by decide) rfl dX9_any_7 ?_
    refine v_callU X hd hle (ct_X6_is _ t 42) hu_X9_64 rfl dn_X6_is rfl ⟨by omega, by omega⟩ rfl (Nat.le_of_ble_eq_true rfl) dX9_any_9 (fun v5 h hd => ?_)
    show V K 3 h 12 [(0, .ref t), (1, .int p1), (2, .ref s2)] [.int (b2i v5)]
    refine v_ifZ_eq (tgt := 36) X dX9_any_12 (by decide) (fun q => ?_) (fun q => ?_)
    · have hd := cnd_f q hd
      refine v_aload_n X dX9_any_36 2 2 rfl rfl ?_
      have hd := lp_out hd ho4
      obtain ⟨rfl, hx⟩ := px_inr hd
      exact v_aret X rfl (Or.inl ⟨_, rfl⟩) hx ho dX9_any_37
    · have hd := cnd_t q hd
      refine v_aload_n X dX9_any_15 0 0 rfl rfl ?_
      refine v_callU X hd hle (ct_X6_next _ t) hu_X9_68 rfl dn_X6_next rfl ⟨by omega, by omega⟩ rfl (Nat.le_of_ble_eq_true rfl) dX9_any_16 (fun v6 h hd => ?_)
      show V K 3 h 19 [(0, .ref t), (1, .int p1), (2, .ref s2)] []
      refine v_new X hd hle nw_X9_71 dX9_any_19 (fun q7 h hd => ?_)
      refine v_dup X dX9_any_22 rfl ?_
      refine v_aload_n X dX9_any_23 2 2 rfl rfl ?_
      refine v_aload_n X dX9_any_24 0 0 rfl rfl ?_
      refine v_iload_n X dX9_any_25 1 1 rfl rfl ?_
      refine v_callVX X hd hle (ih1 t p1) gCl_X9 q1447 q1449 qs31 q119 q1450 dn_X9_both rfl ⟨by omega, by omega⟩ rfl (Nat.le_of_ble_eq_true rfl) dX9_any_26 (fun v8 h hd => ?_) (fun b h hd => ?_)
      · show V K 3 h 29 [(0, .ref t), (1, .int p1), (2, .ref s2)] [.ref v8, .ref s2, .ref q7, .ref q7]
        have hd := cs_r hd
        refine v_callI X hd hle (ct_X25_init _ q7 s2 v8) q1551 q145 q1549 q1550 rfl dn_X25_init rfl ⟨by omega, by omega⟩ rfl (Nat.le_of_ble_eq_true rfl) dX9_any_29 (fun v9 h hd => ?_)
        show V K 3 h 32 [(0, .ref t), (1, .int p1), (2, .ref s2)] [.ref q7]
        refine v_astore_n (lv2 := [(2, .ref q7), (0, .ref t), (1, .int p1)]) X dX9_any_32 2 rfl (by decide) rfl ?_
        refine v_goto (tgt := 6) X dX9_any_33 (by decide) ?_
        exact v_loc [1, 2, 0] rfl (lp_in (P := fun (s2 : Nat) h => V K 3 h 6 [(0, .ref t), (1, .int p1), (2, .ref s2)] []) hd ih3)
      · have hd := cs_l hd
        have hd := lp_out hd ho4
        obtain ⟨rfl, hh⟩ := px_inl hd
        exact vx_leave X hex ho hh
  · have hd := cs_l hd
    obtain ⟨rfl, hh⟩ := px_inl hd
    exact vx_leave X hex ho hh
set_option maxHeartbeats 4000000 in
theorem st_X9_both (G : gG) (n : Nat) (ih2 : ∀ (t : Nat) (p1 : Int32), gCx G yX9_single cX9_single 8 (some (.object "BitingDoors$Cond")) (8 + n) (171 + n * 27) [.ref t, .int p1] (C_X9 n 2 t p1) (fun x : Nat => some (.ref x))) : ∀ (t : Nat) (p1 : Int32), gCx G yX9_both cX9_both 3 (some (.object "BitingDoors$Cond")) (8 + (n + 1)) (171 + (n + 1) * 27) [.ref t, .int p1] (C_X9 (n + 1) 1 t p1) (fun x : Nat => some (.ref x)) := by
  intro t p1
  refine gCx.of (by decide) (Nat.le_of_ble_eq_true rfl) (fun K r hG X hex hd ho => ?_)
  subst hG
  have X : gX K cX9_both 3 "BitingDoors$SentenceReader" "both" (some (.object "BitingDoors$Cond")) (8 + (n + 1)) (171 + (n + 1) * 27) := X
  have hle : gLe (kh1 K) (kh1 K) := gLe.rf
  show V K 3 (kh0 K) 0 [(0, .ref t), (1, .int p1)] []
  generalize kh0 K = h at hd ⊢
  have hd : (Mo.bind (chk [7] t) (fun _ => B_X9_both (C_X9 n) t p1)).1 h = some (r, kh1 K) := hd
  obtain ⟨-, hd⟩ := chk_some hd
  unfold B_X9_both at hd
  refine v_aload_n X dX9_both_0 0 0 rfl rfl ?_
  refine v_iload_n X dX9_both_1 1 1 rfl rfl ?_
  refine v_callVX X hd hle (ih2 t p1) gCl_X9 q1451 q1453 qs32 q119 q1454 dn_X9_single rfl ⟨by omega, by omega⟩ rfl (Nat.le_of_ble_eq_true rfl) dX9_both_2 (fun v1 h hd => ?_) (fun b h hd => ?_)
  · show V K 3 h 5 [(0, .ref t), (1, .int p1)] [.ref v1]
    have hd := cs_r hd
    refine v_astore_n (lv2 := [(2, .ref v1), (0, .ref t), (1, .int p1)]) X dX9_both_5 2 rfl (by decide) rfl ?_
    refine v_loc [1, 2, 0] rfl ?_
    refine loop_ind hd (fun (s2 : Nat) h => V K 3 h 6 [(0, .ref t), (1, .int p1), (2, .ref s2)] []) (fun s2 h x h2 hd hle0 ih3 ho4 => ?_)
    have hle := hle0.tr hle
    refine v_aload_n X dX9_both_6 0 0 rfl rfl ?_
    refine v_ldcS X 41 (by decide) rfl dX9_both_7 ?_
    refine v_callU X hd hle (ct_X6_is _ t 41) hu_X9_64 rfl dn_X6_is rfl ⟨by omega, by omega⟩ rfl (Nat.le_of_ble_eq_true rfl) dX9_both_9 (fun v5 h hd => ?_)
    show V K 3 h 12 [(0, .ref t), (1, .int p1), (2, .ref s2)] [.int (b2i v5)]
    refine v_ifZ_eq (tgt := 36) X dX9_both_12 (by decide) (fun q => ?_) (fun q => ?_)
    · have hd := cnd_f q hd
      refine v_aload_n X dX9_both_36 2 2 rfl rfl ?_
      have hd := lp_out hd ho4
      obtain ⟨rfl, hx⟩ := px_inr hd
      exact v_aret X rfl (Or.inl ⟨_, rfl⟩) hx ho dX9_both_37
    · have hd := cnd_t q hd
      refine v_aload_n X dX9_both_15 0 0 rfl rfl ?_
      refine v_callU X hd hle (ct_X6_next _ t) hu_X9_68 rfl dn_X6_next rfl ⟨by omega, by omega⟩ rfl (Nat.le_of_ble_eq_true rfl) dX9_both_16 (fun v6 h hd => ?_)
      show V K 3 h 19 [(0, .ref t), (1, .int p1), (2, .ref s2)] []
      refine v_new X hd hle nw_X9_81 dX9_both_19 (fun q7 h hd => ?_)
      refine v_dup X dX9_both_22 rfl ?_
      refine v_aload_n X dX9_both_23 2 2 rfl rfl ?_
      refine v_aload_n X dX9_both_24 0 0 rfl rfl ?_
      refine v_iload_n X dX9_both_25 1 1 rfl rfl ?_
      refine v_callVX X hd hle (ih2 t p1) gCl_X9 q1451 q1453 qs32 q119 q1454 dn_X9_single rfl ⟨by omega, by omega⟩ rfl (Nat.le_of_ble_eq_true rfl) dX9_both_26 (fun v8 h hd => ?_) (fun b h hd => ?_)
      · show V K 3 h 29 [(0, .ref t), (1, .int p1), (2, .ref s2)] [.ref v8, .ref s2, .ref q7, .ref q7]
        have hd := cs_r hd
        refine v_callI X hd hle (ct_X24_init _ q7 s2 v8) q1537 q144 q1535 q1536 rfl dn_X24_init rfl ⟨by omega, by omega⟩ rfl (Nat.le_of_ble_eq_true rfl) dX9_both_29 (fun v9 h hd => ?_)
        show V K 3 h 32 [(0, .ref t), (1, .int p1), (2, .ref s2)] [.ref q7]
        refine v_astore_n (lv2 := [(2, .ref q7), (0, .ref t), (1, .int p1)]) X dX9_both_32 2 rfl (by decide) rfl ?_
        refine v_goto (tgt := 6) X dX9_both_33 (by decide) ?_
        exact v_loc [1, 2, 0] rfl (lp_in (P := fun (s2 : Nat) h => V K 3 h 6 [(0, .ref t), (1, .int p1), (2, .ref s2)] []) hd ih3)
      · have hd := cs_l hd
        have hd := lp_out hd ho4
        obtain ⟨rfl, hh⟩ := px_inl hd
        exact vx_leave X hex ho hh
  · have hd := cs_l hd
    obtain ⟨rfl, hh⟩ := px_inl hd
    exact vx_leave X hex ho hh
set_option maxHeartbeats 4000000 in
theorem st_X9_single (G : gG) (n : Nat) (ih0 : ∀ (t : Nat) (p1 : Int32), gCx G yX9_any cX9_any 3 (some (.object "BitingDoors$Cond")) (8 + n) (171 + n * 27) [.ref t, .int p1] (C_X9 n 0 t p1) (fun x : Nat => some (.ref x))) (ih2 : ∀ (t : Nat) (p1 : Int32), gCx G yX9_single cX9_single 8 (some (.object "BitingDoors$Cond")) (8 + n) (171 + n * 27) [.ref t, .int p1] (C_X9 n 2 t p1) (fun x : Nat => some (.ref x))) : ∀ (t : Nat) (p1 : Int32), gCx G yX9_single cX9_single 8 (some (.object "BitingDoors$Cond")) (8 + (n + 1)) (171 + (n + 1) * 27) [.ref t, .int p1] (C_X9 (n + 1) 2 t p1) (fun x : Nat => some (.ref x)) := by
  intro t p1
  refine gCx.of (by decide) (Nat.le_of_ble_eq_true rfl) (fun K r hG X hex hd ho => ?_)
  subst hG
  have X : gX K cX9_single 8 "BitingDoors$SentenceReader" "single" (some (.object "BitingDoors$Cond")) (8 + (n + 1)) (171 + (n + 1) * 27) := X
  have hle : gLe (kh1 K) (kh1 K) := gLe.rf
  show V K 8 (kh0 K) 0 [(0, .ref t), (1, .int p1)] []
  generalize kh0 K = h at hd ⊢
  have hd : (Mo.bind (chk [7] t) (fun _ => B_X9_single (C_X9 n) t p1)).1 h = some (r, kh1 K) := hd
  obtain ⟨-, hd⟩ := chk_some hd
  unfold B_X9_single at hd
  refine v_aload_n X dX9_single_0 0 0 rfl rfl ?_
  refine v_ldcS X 39 (by decide) rfl dX9_single_1 ?_
  refine v_callU X hd hle (ct_X6_is _ t 39) hu_X9_64 rfl dn_X6_is rfl ⟨by omega, by omega⟩ rfl (Nat.le_of_ble_eq_true rfl) dX9_single_3 (fun v1 h hd => ?_)
  show V K 8 h 6 [(0, .ref t), (1, .int p1)] [.int (b2i v1)]
  refine v_istore_n (lv2 := [(2, .int (b2i v1)), (0, .ref t), (1, .int p1)]) X dX9_single_6 2 rfl (by decide) rfl ?_
  refine v_aload_n X dX9_single_7 1 0 rfl rfl ?_
  refine v_bipush (v := 40) X dX9_single_8 (by decide) ?_
  refine v_callU X hd hle (ct_X6_is_2 _ t 40) hu_X9_86 rfl dn_X6_is_2 rfl ⟨by omega, by omega⟩ rfl (Nat.le_of_ble_eq_true rfl) dX9_single_10 (fun v2 h hd => ?_)
  show V K 8 h 13 [(2, .int (b2i v1)), (0, .ref t), (1, .int p1)] [.int (b2i v2)]
  refine v_istore_n (lv2 := [(3, .int (b2i v2)), (2, .int (b2i v1)), (0, .ref t), (1, .int p1)]) X dX9_single_13 3 rfl (by decide) rfl ?_
  refine v_aload_n X dX9_single_14 2 0 rfl rfl ?_
  refine v_ldcS X 40 (by decide) rfl dX9_single_15 ?_
  refine v_callU X hd hle (ct_X6_is _ t 40) hu_X9_64 rfl dn_X6_is rfl ⟨by omega, by omega⟩ rfl (Nat.le_of_ble_eq_true rfl) dX9_single_17 (fun v3 h hd => ?_)
  show V K 8 h 20 [(3, .int (b2i v2)), (2, .int (b2i v1)), (0, .ref t), (1, .int p1)] [.int (b2i v3)]
  refine v_istore (lv2 := [(4, .int (b2i v3)), (3, .int (b2i v2)), (2, .int (b2i v1)), (0, .ref t), (1, .int p1)]) X dX9_single_20 (by decide) rfl ?_
  refine v_aload_n X dX9_single_22 3 0 rfl rfl ?_
  refine v_aload_n X dX9_single_23 3 0 rfl rfl ?_
  refine v_getR X hd fl_X9_23 dX9_single_24 (fun v4 hd => ?_)
  refine v_callU X hd hle (ct_X6_find _ t v4) hu_X9_91 rfl dn_X6_find rfl ⟨by omega, by omega⟩ rfl (Nat.le_of_ble_eq_true rfl) dX9_single_27 (fun v5 h hd => ?_)
  show V K 8 h 30 [(4, .int (b2i v3)), (3, .int (b2i v2)), (2, .int (b2i v1)), (0, .ref t), (1, .int p1)] [.int v5]
  refine v_istore (lv2 := [(5, .int v5), (4, .int (b2i v3)), (3, .int (b2i v2)), (2, .int (b2i v1)), (0, .ref t), (1, .int p1)]) X dX9_single_30 (by decide) rfl ?_
  refine v_aload_n X dX9_single_32 4 0 rfl rfl ?_
  refine v_aload_n X dX9_single_33 4 0 rfl rfl ?_
  refine v_getR X hd fl_X9_37 dX9_single_34 (fun v6 hd => ?_)
  refine v_callU X hd hle (ct_X6_find _ t v6) hu_X9_91 rfl dn_X6_find rfl ⟨by omega, by omega⟩ rfl (Nat.le_of_ble_eq_true rfl) dX9_single_37 (fun v7 h hd => ?_)
  show V K 8 h 40 [(5, .int v5), (4, .int (b2i v3)), (3, .int (b2i v2)), (2, .int (b2i v1)), (0, .ref t), (1, .int p1)] [.int v7]
  refine v_istore (lv2 := [(6, .int v7), (5, .int v5), (4, .int (b2i v3)), (3, .int (b2i v2)), (2, .int (b2i v1)), (0, .ref t), (1, .int p1)]) X dX9_single_40 (by decide) rfl ?_
  refine v_aload_n X dX9_single_42 5 0 rfl rfl ?_
  refine v_iload_n X dX9_single_43 4 2 rfl rfl ?_
  obtain ⟨u8, h1, hd, hd2⟩ := Mo.bind_some hd
  have KJ : V K 8 h1 73 [(0, .ref t), (1, .int p1), (2, .int (b2i v1)), (3, .int (b2i v2)), (4, .int (b2i v3)), (5, .int v5), (6, .int v7)] [.int (b2i u8), .ref t] := by
    clear hd
    have hd := hd2
    refine v_iconst (v := 1) X dX9_single_73 (by decide) ?_
    refine v_callUX X hd hle (ct_X6_must _ t u8 1) hu_X9_55 rfl dn_X6_must rfl q116 q764 ⟨by omega, by omega⟩ rfl (Nat.le_of_ble_eq_true rfl) dX9_single_74 (fun v9 h hd => ?_) (fun b h hd => ?_)
    · show V K 8 h 77 [(0, .ref t), (1, .int p1), (2, .int (b2i v1)), (3, .int (b2i v2)), (4, .int (b2i v3)), (5, .int v5), (6, .int v7)] []
      have hd := cs_r hd
      refine v_aload_n X dX9_single_77 0 0 rfl rfl ?_
      refine v_aload_n X dX9_single_78 0 0 rfl rfl ?_
      refine v_getI X hd fl_X9_40 dX9_single_79 (fun v10 hd => ?_)
      refine v_bipush (v := 20) X dX9_single_82 (by decide) ?_
      obtain ⟨u11, h1, hd, hd2⟩ := Mo.bind_some hd
      have KJ : V K 8 h1 98 [(0, .ref t), (1, .int p1), (2, .int (b2i v1)), (3, .int (b2i v2)), (4, .int (b2i v3)), (5, .int v5), (6, .int v7)] [.int (b2i u11), .ref t] := by
        clear hd
        have hd := hd2
        refine v_iconst (v := 4) X dX9_single_98 (by decide) ?_
        refine v_callUX X hd hle (ct_X6_must _ t u11 4) hu_X9_55 rfl dn_X6_must rfl q116 q764 ⟨by omega, by omega⟩ rfl (Nat.le_of_ble_eq_true rfl) dX9_single_99 (fun v12 h hd => ?_) (fun b h hd => ?_)
        · show V K 8 h 102 [(0, .ref t), (1, .int p1), (2, .int (b2i v1)), (3, .int (b2i v2)), (4, .int (b2i v3)), (5, .int v5), (6, .int v7)] []
          have hd := cs_r hd
          refine v_aload_n X dX9_single_102 0 0 rfl rfl ?_
          refine v_dup X dX9_single_103 rfl ?_
          refine v_getI X hd fl_X9_40 dX9_single_104 (fun v13 hd => ?_)
          refine v_iconst (v := 1) X dX9_single_107 (by decide) ?_
          refine v_iadd X dX9_single_108 ?_
          refine v_put (v := .int (v13 + 1)) X hd fp_X9_40 rfl rfl dX9_single_109 (fun h hd => ?_)
          refine v_aload_n X dX9_single_112 0 0 rfl rfl ?_
          refine v_callU X hd hle (ct_X6_next _ t) hu_X9_68 rfl dn_X6_next rfl ⟨by omega, by omega⟩ rfl (Nat.le_of_ble_eq_true rfl) dX9_single_113 (fun v14 h hd => ?_)
          show V K 8 h 116 [(0, .ref t), (1, .int p1), (2, .int (b2i v1)), (3, .int (b2i v2)), (4, .int (b2i v3)), (5, .int v5), (6, .int v7)] []
          refine v_iload_n X dX9_single_116 2 2 rfl rfl ?_
          refine v_ifZ_eq (tgt := 135) X dX9_single_117 (by decide) (fun q => ?_) (fun q => ?_)
          · have hd := cnd_f q hd
            refine v_iload_n X dX9_single_135 3 3 rfl rfl ?_
            refine v_ifZ_eq (tgt := 157) X dX9_single_136 (by decide) (fun q => ?_) (fun q => ?_)
            · have hd := cnd_f q hd
              refine v_iload X dX9_single_157 4 rfl ?_
              refine v_ifZ_eq (tgt := 184) X dX9_single_159 (by decide) (fun q => ?_) (fun q => ?_)
              · have hd := cnd_f q hd
                refine v_iload X dX9_single_184 5 rfl ?_
                refine v_iconst (v := (-1)) X dX9_single_186 (by decide) ?_
                refine v_icmp_eq (tgt := 202) X dX9_single_187 (by decide) (fun q => ?_) (fun q => ?_)
                · have hd := ite_t q hd
                  refine v_aload_n X dX9_single_202 0 0 rfl rfl ?_
                  refine v_iload X dX9_single_203 6 rfl ?_
                  refine v_callVX X hd hle (ct_X9_counts _ t v7) gCl_X9 q1512 q1514 qs33 q119 q1515 dn_X9_counts rfl ⟨by omega, by omega⟩ rfl (Nat.le_of_ble_eq_true rfl) dX9_single_205 (fun v15 h hd => ?_) (fun b h hd => ?_)
                  · show V K 8 h 208 [(0, .ref t), (1, .int p1), (2, .int (b2i v1)), (3, .int (b2i v2)), (4, .int (b2i v3)), (5, .int v5), (6, .int v7)] [.ref v15]
                    have hd := cs_r hd
                    obtain ⟨rfl, hx⟩ := px_inr hd
                    exact v_aret X rfl (Or.inl ⟨_, rfl⟩) hx ho dX9_single_208
                  · have hd := cs_l hd
                    obtain ⟨rfl, hh⟩ := px_inl hd
                    exact vx_leave X hex ho hh
                · have hd := ite_f q hd
                  refine v_new X hd hle nw_X9_122 dX9_single_190 (fun q16 h hd => ?_)
                  refine v_dup X dX9_single_193 rfl ?_
                  refine v_iload X dX9_single_194 5 rfl ?_
                  refine v_callI X hd hle (ct_X22_init _ q16 v5) q1506 q142 q1504 q1505 rfl dn_X22_init rfl ⟨by omega, by omega⟩ rfl (Nat.le_of_ble_eq_true rfl) dX9_single_196 (fun v17 h hd => ?_)
                  show V K 8 h 199 [(0, .ref t), (1, .int p1), (2, .int (b2i v1)), (3, .int (b2i v2)), (4, .int (b2i v3)), (5, .int v5), (6, .int v7)] [.ref q16]
                  refine v_goto (tgt := 208) X dX9_single_199 (by decide) ?_
                  obtain ⟨rfl, hx⟩ := px_inr hd
                  exact v_aret X rfl (Or.inl ⟨_, rfl⟩) hx ho dX9_single_208
              · have hd := cnd_t q hd
                refine v_new X hd hle nw_X9_104 dX9_single_162 (fun q18 h hd => ?_)
                refine v_dup X dX9_single_165 rfl ?_
                refine v_aload_n X dX9_single_166 0 0 rfl rfl ?_
                refine v_aload_n X dX9_single_167 0 0 rfl rfl ?_
                refine v_getR X hd fl_X9_3 dX9_single_168 (fun v19 hd => ?_)
                refine v_getR X hd fl_X9_106 dX9_single_171 (fun v20 hd => ?_)
                refine v_getR X hd fl_X9_110 dX9_single_174 (fun v21 hd => ?_)
                refine v_callUX X hd hle (ct_X6_known _ t v21) hu_X9_116 rfl dn_X6_known rfl q116 q1067 ⟨by omega, by omega⟩ rfl (Nat.le_of_ble_eq_true rfl) dX9_single_177 (fun v22 h hd => ?_) (fun b h hd => ?_)
                · show V K 8 h 180 [(0, .ref t), (1, .int p1), (2, .int (b2i v1)), (3, .int (b2i v2)), (4, .int (b2i v3)), (5, .int v5), (6, .int v7)] [.int v22, .ref q18, .ref q18]
                  have hd := cs_r hd
                  refine v_callI X hd hle (ct_X21_init _ q18 v22) q1496 q141 q1494 q1495 rfl dn_X21_init rfl ⟨by omega, by omega⟩ rfl (Nat.le_of_ble_eq_true rfl) dX9_single_180 (fun v23 h hd => ?_)
                  show V K 8 h 183 [(0, .ref t), (1, .int p1), (2, .int (b2i v1)), (3, .int (b2i v2)), (4, .int (b2i v3)), (5, .int v5), (6, .int v7)] [.ref q18]
                  obtain ⟨rfl, hx⟩ := px_inr hd
                  exact v_aret X rfl (Or.inl ⟨_, rfl⟩) hx ho dX9_single_183
                · have hd := cs_l hd
                  obtain ⟨rfl, hh⟩ := px_inl hd
                  exact vx_leave X hex ho hh
            · have hd := cnd_t q hd
              refine v_aload_n X dX9_single_139 0 0 rfl rfl ?_
              refine v_iload_n X dX9_single_140 1 1 rfl rfl ?_
              refine v_iconst (v := 1) X dX9_single_141 (by decide) ?_
              refine v_iadd X dX9_single_142 ?_
              refine v_callVX X hd hle (ih0 t (p1 + 1)) gCl_X9 q1443 q1445 qs30 q119 q1446 dn_X9_any rfl ⟨by omega, by omega⟩ rfl (Nat.le_of_ble_eq_true rfl) dX9_single_143 (fun v24 h hd => ?_) (fun b h hd => ?_)
              · show V K 8 h 146 [(0, .ref t), (1, .int p1), (2, .int (b2i v1)), (3, .int (b2i v2)), (4, .int (b2i v3)), (5, .int v5), (6, .int v7)] [.ref v24]
                have hd := cs_r hd
                refine v_astore (lv2 := [(7, .ref v24), (0, .ref t), (1, .int p1), (2, .int (b2i v1)), (3, .int (b2i v2)), (4, .int (b2i v3)), (5, .int v5), (6, .int v7)]) X dX9_single_146 (by decide) rfl ?_
                refine v_aload_n X dX9_single_148 1 0 rfl rfl ?_
                refine v_bipush (v := 41) X dX9_single_149 (by decide) ?_
                refine v_callUX X hd hle (ct_X6_sign _ t 41) hu_X9_100 rfl dn_X6_sign rfl q116 q912 ⟨by omega, by omega⟩ rfl (Nat.le_of_ble_eq_true rfl) dX9_single_151 (fun v25 h hd => ?_) (fun b h hd => ?_)
                · show V K 8 h 154 [(7, .ref v24), (0, .ref t), (1, .int p1), (2, .int (b2i v1)), (3, .int (b2i v2)), (4, .int (b2i v3)), (5, .int v5), (6, .int v7)] []
                  have hd := cs_r hd
                  refine v_aload X dX9_single_154 0 rfl ?_
                  obtain ⟨rfl, hx⟩ := px_inr hd
                  exact v_aret X rfl (Or.inl ⟨_, rfl⟩) hx ho dX9_single_156
                · have hd := cs_l hd
                  obtain ⟨rfl, hh⟩ := px_inl hd
                  exact vx_leave X hex ho hh
              · have hd := cs_l hd
                obtain ⟨rfl, hh⟩ := px_inl hd
                exact vx_leave X hex ho hh
          · have hd := cnd_t q hd
            refine v_new X hd hle nw_X9_95 dX9_single_120 (fun q26 h hd => ?_)
            refine v_dup X dX9_single_123 rfl ?_
            refine v_aload_n X dX9_single_124 0 0 rfl rfl ?_
            refine v_iload_n X dX9_single_125 1 1 rfl rfl ?_
            refine v_iconst (v := 1) X dX9_single_126 (by decide) ?_
            refine v_iadd X dX9_single_127 ?_
            refine v_callVX X hd hle (ih2 t (p1 + 1)) gCl_X9 q1451 q1453 qs32 q119 q1454 dn_X9_single rfl ⟨by omega, by omega⟩ rfl (Nat.le_of_ble_eq_true rfl) dX9_single_128 (fun v27 h hd => ?_) (fun b h hd => ?_)
            · show V K 8 h 131 [(0, .ref t), (1, .int p1), (2, .int (b2i v1)), (3, .int (b2i v2)), (4, .int (b2i v3)), (5, .int v5), (6, .int v7)] [.ref v27, .ref q26, .ref q26]
              have hd := cs_r hd
              refine v_callI X hd hle (ct_X20_init _ q26 v27) q1477 q140 q1475 q1476 rfl dn_X20_init rfl ⟨by omega, by omega⟩ rfl (Nat.le_of_ble_eq_true rfl) dX9_single_131 (fun v28 h hd => ?_)
              show V K 8 h 134 [(0, .ref t), (1, .int p1), (2, .int (b2i v1)), (3, .int (b2i v2)), (4, .int (b2i v3)), (5, .int v5), (6, .int v7)] [.ref q26]
              obtain ⟨rfl, hx⟩ := px_inr hd
              exact v_aret X rfl (Or.inl ⟨_, rfl⟩) hx ho dX9_single_134
            · have hd := cs_l hd
              obtain ⟨rfl, hh⟩ := px_inl hd
              exact vx_leave X hex ho hh
        · have hd := cs_l hd
          obtain ⟨rfl, hh⟩ := px_inl hd
          exact vx_leave X hex ho hh
      have hle := (Mo.le hd2).tr hle
      clear hd2
      refine v_icmp_ge (tgt := 97) X dX9_single_84 (by decide) (fun q => ?_) (fun q => ?_)
      · have hd := ite_t q hd
        refine v_iconst (v := 0) X dX9_single_97 (by decide) ?_
        exact v_loc [0, 1, 2, 3, 4, 5, 6] rfl (v_at (P := fun (u11 : Bool) h => V K 8 h 98 [(0, .ref t), (1, .int p1), (2, .int (b2i v1)), (3, .int (b2i v2)), (4, .int (b2i v3)), (5, .int v5), (6, .int v7)] [.int (b2i u11), .ref t]) hd KJ)
      · have hd := ite_f q hd
        refine v_iload_n X dX9_single_87 1 1 rfl rfl ?_
        refine v_bipush (v := 8) X dX9_single_88 (by decide) ?_
        refine v_icmp_gt (tgt := 97) X dX9_single_90 (by decide) (fun q => ?_) (fun q => ?_)
        · have hd := ite_t q hd
          refine v_iconst (v := 0) X dX9_single_97 (by decide) ?_
          exact v_loc [0, 1, 2, 3, 4, 5, 6] rfl (v_at (P := fun (u11 : Bool) h => V K 8 h 98 [(0, .ref t), (1, .int p1), (2, .int (b2i v1)), (3, .int (b2i v2)), (4, .int (b2i v3)), (5, .int v5), (6, .int v7)] [.int (b2i u11), .ref t]) hd KJ)
        · have hd := ite_f q hd
          refine v_iconst (v := 1) X dX9_single_93 (by decide) ?_
          refine v_goto (tgt := 98) X dX9_single_94 (by decide) ?_
          exact v_loc [0, 1, 2, 3, 4, 5, 6] rfl (v_at (P := fun (u11 : Bool) h => V K 8 h 98 [(0, .ref t), (1, .int p1), (2, .int (b2i v1)), (3, .int (b2i v2)), (4, .int (b2i v3)), (5, .int v5), (6, .int v7)] [.int (b2i u11), .ref t]) hd KJ)
    · have hd := cs_l hd
      obtain ⟨rfl, hh⟩ := px_inl hd
      exact vx_leave X hex ho hh
  have hle := (Mo.le hd2).tr hle
  clear hd2
  refine v_ifZ_ne (tgt := 68) X dX9_single_44 (by decide) (fun q => ?_) (fun q => ?_)
  · have hd := cnd_t q hd
    refine v_iconst (v := 1) X dX9_single_68 (by decide) ?_
    refine v_goto (tgt := 73) X dX9_single_69 (by decide) ?_
    exact v_loc [5, 6, 4, 3, 2, 1, 0] rfl (v_at (P := fun (u8 : Bool) h => V K 8 h 73 [(0, .ref t), (1, .int p1), (2, .int (b2i v1)), (3, .int (b2i v2)), (4, .int (b2i v3)), (5, .int v5), (6, .int v7)] [.int (b2i u8), .ref t]) hd KJ)
  · have hd := cnd_f q hd
    refine v_iload_n X dX9_single_47 3 3 rfl rfl ?_
    refine v_ifZ_ne (tgt := 68) X dX9_single_48 (by decide) (fun q => ?_) (fun q => ?_)
    · have hd := cnd_t q hd
      refine v_iconst (v := 1) X dX9_single_68 (by decide) ?_
      refine v_goto (tgt := 73) X dX9_single_69 (by decide) ?_
      exact v_loc [5, 6, 4, 3, 2, 1, 0] rfl (v_at (P := fun (u8 : Bool) h => V K 8 h 73 [(0, .ref t), (1, .int p1), (2, .int (b2i v1)), (3, .int (b2i v2)), (4, .int (b2i v3)), (5, .int v5), (6, .int v7)] [.int (b2i u8), .ref t]) hd KJ)
    · have hd := cnd_f q hd
      refine v_iload X dX9_single_51 2 rfl ?_
      refine v_ifZ_ne (tgt := 68) X dX9_single_53 (by decide) (fun q => ?_) (fun q => ?_)
      · have hd := cnd_t q hd
        refine v_iconst (v := 1) X dX9_single_68 (by decide) ?_
        refine v_goto (tgt := 73) X dX9_single_69 (by decide) ?_
        exact v_loc [5, 6, 4, 3, 2, 1, 0] rfl (v_at (P := fun (u8 : Bool) h => V K 8 h 73 [(0, .ref t), (1, .int p1), (2, .int (b2i v1)), (3, .int (b2i v2)), (4, .int (b2i v3)), (5, .int v5), (6, .int v7)] [.int (b2i u8), .ref t]) hd KJ)
      · have hd := cnd_f q hd
        refine v_iload X dX9_single_56 1 rfl ?_
        refine v_iconst (v := (-1)) X dX9_single_58 (by decide) ?_
        refine v_icmp_ne (tgt := 68) X dX9_single_59 (by decide) (fun q => ?_) (fun q => ?_)
        · have hd := ite_f q hd
          refine v_iconst (v := 1) X dX9_single_68 (by decide) ?_
          refine v_goto (tgt := 73) X dX9_single_69 (by decide) ?_
          exact v_loc [5, 6, 4, 3, 2, 1, 0] rfl (v_at (P := fun (u8 : Bool) h => V K 8 h 73 [(0, .ref t), (1, .int p1), (2, .int (b2i v1)), (3, .int (b2i v2)), (4, .int (b2i v3)), (5, .int v5), (6, .int v7)] [.int (b2i u8), .ref t]) hd KJ)
        · have hd := ite_t q hd
          refine v_iload X dX9_single_62 0 rfl ?_
          refine v_iconst (v := (-1)) X dX9_single_64 (by decide) ?_
          refine v_icmp_eq (tgt := 72) X dX9_single_65 (by decide) (fun q => ?_) (fun q => ?_)
          · have hd := ite_t q hd
            refine v_iconst (v := 0) X dX9_single_72 (by decide) ?_
            exact v_loc [5, 6, 4, 3, 2, 1, 0] rfl (v_at (P := fun (u8 : Bool) h => V K 8 h 73 [(0, .ref t), (1, .int p1), (2, .int (b2i v1)), (3, .int (b2i v2)), (4, .int (b2i v3)), (5, .int v5), (6, .int v7)] [.int (b2i u8), .ref t]) hd KJ)
          · have hd := ite_f q hd
            refine v_iconst (v := 1) X dX9_single_68 (by decide) ?_
            refine v_goto (tgt := 73) X dX9_single_69 (by decide) ?_
            exact v_loc [5, 6, 4, 3, 2, 1, 0] rfl (v_at (P := fun (u8 : Bool) h => V K 8 h 73 [(0, .ref t), (1, .int p1), (2, .int (b2i v1)), (3, .int (b2i v2)), (4, .int (b2i v3)), (5, .int v5), (6, .int v7)] [.int (b2i u8), .ref t]) hd KJ)
theorem ct_X9_group (G : gG) (n : Nat) : (∀ (t : Nat) (p1 : Int32), gCx G yX9_any cX9_any 3 (some (.object "BitingDoors$Cond")) (8 + n) (171 + n * 27) [.ref t, .int p1] (C_X9 n 0 t p1) (fun x : Nat => some (.ref x))) ∧ (∀ (t : Nat) (p1 : Int32), gCx G yX9_both cX9_both 3 (some (.object "BitingDoors$Cond")) (8 + n) (171 + n * 27) [.ref t, .int p1] (C_X9 n 1 t p1) (fun x : Nat => some (.ref x))) ∧ (∀ (t : Nat) (p1 : Int32), gCx G yX9_single cX9_single 8 (some (.object "BitingDoors$Cond")) (8 + n) (171 + n * 27) [.ref t, .int p1] (C_X9 n 2 t p1) (fun x : Nat => some (.ref x))) := by
  induction n with
  | zero =>
    refine ⟨?_, ?_, ?_⟩ <;> (intro t p1 l hfl h r h2 hf; obtain ⟨-, hf⟩ := chk_some hf; cases hf)
  | succ n ih =>
    obtain ⟨ih0, ih1, ih2⟩ := ih
    exact ⟨st_X9_any G n ih1, st_X9_both G n ih2, st_X9_single G n ih0 ih2⟩
noncomputable def M_X9_any (t : Nat) (p1 : Int32) : Mo (Nat ⊕ Nat) := C_X9 30 0 t p1
theorem ct_X9_any (G : gG) (t : Nat) (p1 : Int32) : gCx G yX9_any cX9_any 3 (some (.object "BitingDoors$Cond")) 38 981 [.ref t, .int p1] (M_X9_any t p1) (fun x : Nat => some (.ref x)) := (ct_X9_group G 30).1 t p1
def dkwX9_read_1 : List UInt8 := [167, 0, 4, 3, 4, 182, 0, 55, 43, 176]
abbrev dktX9_read_1 : List UInt8 := dkwX9_read_1 ++ []
def dkwX9_read_0 : List UInt8 := [42, 3, 181, 0, 40, 42, 182, 0, 44, 42, 4, 182, 0, 48, 76, 42, 42, 180, 0, 52, 154, 0, 7, 4]
abbrev dktX9_read_0 : List UInt8 := dkwX9_read_0 ++ dktX9_read_1
theorem dksX9_read_0 : cX9_read.data.toList.drop 0 = dktX9_read_0 := by decide +kernel
theorem dksX9_read_1 : cX9_read.data.toList.drop 24 = dktX9_read_1 := dk_seg dksX9_read_0 24 rfl rfl
theorem dX9_read_0 : decode cX9_read 0 = .ok (.aload_n 0, 1) := dk_42 (dk_at dksX9_read_0 0 rfl rfl)
theorem dX9_read_1 : decode cX9_read 1 = .ok (.iconst 0, 1) := dk_3 (dk_at dksX9_read_0 1 rfl rfl)
theorem dX9_read_2 : decode cX9_read 2 = .ok (.putfield 40, 3) := dk_181 0 40 (dk_at dksX9_read_0 2 rfl rfl)
theorem dX9_read_5 : decode cX9_read 5 = .ok (.aload_n 0, 1) := dk_42 (dk_at dksX9_read_0 5 rfl rfl)
theorem dX9_read_6 : decode cX9_read 6 = .ok (.invokevirtual 44, 3) := dk_182 0 44 (dk_at dksX9_read_0 6 rfl rfl)
theorem dX9_read_9 : decode cX9_read 9 = .ok (.aload_n 0, 1) := dk_42 (dk_at dksX9_read_0 9 rfl rfl)
theorem dX9_read_10 : decode cX9_read 10 = .ok (.iconst 1, 1) := dk_4 (dk_at dksX9_read_0 10 rfl rfl)
theorem dX9_read_11 : decode cX9_read 11 = .ok (.invokevirtual 48, 3) := dk_182 0 48 (dk_at dksX9_read_0 11 rfl rfl)
theorem dX9_read_14 : decode cX9_read 14 = .ok (.astore_n 1, 1) := dk_76 (dk_at dksX9_read_0 14 rfl rfl)
theorem dX9_read_15 : decode cX9_read 15 = .ok (.aload_n 0, 1) := dk_42 (dk_at dksX9_read_0 15 rfl rfl)
theorem dX9_read_16 : decode cX9_read 16 = .ok (.aload_n 0, 1) := dk_42 (dk_at dksX9_read_0 16 rfl rfl)
theorem dX9_read_17 : decode cX9_read 17 = .ok (.getfield 52, 3) := dk_180 0 52 (dk_at dksX9_read_0 17 rfl rfl)
theorem dX9_read_20 : decode cX9_read 20 = .ok (.ifCond .ne 7, 3) := dk_154 0 7 (dk_at dksX9_read_0 20 rfl rfl)
theorem dX9_read_23 : decode cX9_read 23 = .ok (.iconst 1, 1) := dk_4 (dk_at dksX9_read_0 23 rfl rfl)
theorem dX9_read_24 : decode cX9_read 24 = .ok (.goto 4, 3) := dk_167 0 4 (dk_at dksX9_read_1 0 rfl rfl)
theorem dX9_read_27 : decode cX9_read 27 = .ok (.iconst 0, 1) := dk_3 (dk_at dksX9_read_1 3 rfl rfl)
theorem dX9_read_28 : decode cX9_read 28 = .ok (.iconst 1, 1) := dk_4 (dk_at dksX9_read_1 4 rfl rfl)
theorem dX9_read_29 : decode cX9_read 29 = .ok (.invokevirtual 55, 3) := dk_182 0 55 (dk_at dksX9_read_1 5 rfl rfl)
theorem dX9_read_32 : decode cX9_read 32 = .ok (.aload_n 1, 1) := dk_43 (dk_at dksX9_read_1 8 rfl rfl)
theorem dX9_read_33 : decode cX9_read 33 = .ok (.areturn, 1) := dk_176 (dk_at dksX9_read_1 9 rfl rfl)
theorem hu_X9_44 : ∀ ci ∈ [7], ∃ rr : vw_C, gCl[ci]? = some rr ∧ GoodIn lw_all (va_wsU "BitingDoors$SentenceReader" 44 rr.1 "BitingDoors$Reader" ⟨"BitingDoors$SentenceReader", "begin", "()V"⟩ yX6_begin (ws_ yX6_begin cX6_begin 1 none)) := by
  intro ci hc
  simp only [List.mem_cons, List.not_mem_nil, or_false] at hc
  subst hc
  refine ⟨_, gCl_X9, lw_app (fun w hw => ?_) (lw_meth q671)⟩
  simp only [List.mem_cons, List.not_mem_nil, or_false] at hw
  rcases hw with e | e | e | e | e
  · rw [e]; exact q1440
  · rw [e]; exact q1441
  · rw [e]; exact q1442
  · rw [e]; exact q670
  · rw [e]; exact q116
theorem dn_X9_read : yX9_read.cls ≠ "java/lang/invoke/MethodHandle" ∧ yX9_read.cls ≠ "java/lang/invoke/VarHandle" ∧ (parseMethodDescriptor yX9_read.desc).map (fun d => d.parameters.length) = some 0 := by decide +kernel
noncomputable def M_X9_read (t : Nat) : Mo (Nat ⊕ Nat) := Mo.bind (chk [7] t) (fun _ => Mo.bind (pF [7] t 10 (.int 0)) (fun _ => Mo.bind (Mo.bind (chk [7] t) (fun _ => M_X6_begin t)) (fun v1 => Mo.bind (M_X9_any t 1) (fun w => Mo.cs w (fun b => Mo.pure (Sum.inl b)) (fun v2 => Mo.bind (gI [7] t 3) (fun v3 => Mo.bind ((if v3 = 0 then Mo.pure true else Mo.pure false : Mo (Bool))) (fun u4 => Mo.bind (Mo.bind (chk [7] t) (fun _ => M_X6_must t u4 1)) (fun w => Mo.cs w (fun b => Mo.pure (Sum.inl b)) (fun v5 => Mo.pure (Sum.inr v2))))))))))
set_option maxHeartbeats 4000000 in
theorem ct_X9_read (G : gG) (t : Nat) : gCx G yX9_read cX9_read 2 (some (.object "BitingDoors$Cond")) 39 1003 [.ref t] (M_X9_read t) (fun x : Nat => some (.ref x)) := by
  refine gCx.of (by decide) (Nat.le_of_ble_eq_true rfl) (fun K r hG X hex hd ho => ?_)
  subst hG
  have X : gX K cX9_read 2 "BitingDoors$SentenceReader" "read" (some (.object "BitingDoors$Cond")) 39 1003 := X
  have hle : gLe (kh1 K) (kh1 K) := gLe.rf
  show V K 2 (kh0 K) 0 [(0, .ref t)] []
  generalize kh0 K = h at hd ⊢
  unfold M_X9_read at hd
  obtain ⟨-, hd⟩ := chk_some hd
  refine v_aload_n X dX9_read_0 0 0 rfl rfl ?_
  refine v_iconst (v := 0) X dX9_read_1 (by decide) ?_
  refine v_put (v := .int 0) X hd fp_X9_40 rfl rfl dX9_read_2 (fun h hd => ?_)
  refine v_aload_n X dX9_read_5 0 0 rfl rfl ?_
  refine v_callU X hd hle (ct_X6_begin _ t) hu_X9_44 rfl dn_X6_begin rfl ⟨by decide, by decide⟩ rfl (Nat.le_of_ble_eq_true rfl) dX9_read_6 (fun v1 h hd => ?_)
  show V K 2 h 9 [(0, .ref t)] []
  refine v_aload_n X dX9_read_9 0 0 rfl rfl ?_
  refine v_iconst (v := 1) X dX9_read_10 (by decide) ?_
  refine v_callVX X hd hle (ct_X9_any _ t 1) gCl_X9 q1443 q1445 qs30 q119 q1446 dn_X9_any rfl ⟨by decide, by decide⟩ rfl (Nat.le_of_ble_eq_true rfl) dX9_read_11 (fun v2 h hd => ?_) (fun b h hd => ?_)
  · show V K 2 h 14 [(0, .ref t)] [.ref v2]
    have hd := cs_r hd
    refine v_astore_n (lv2 := [(1, .ref v2), (0, .ref t)]) X dX9_read_14 1 rfl (by decide) rfl ?_
    refine v_aload_n X dX9_read_15 1 0 rfl rfl ?_
    refine v_aload_n X dX9_read_16 1 0 rfl rfl ?_
    refine v_getI X hd fl_X9_52 dX9_read_17 (fun v3 hd => ?_)
    obtain ⟨u4, h1, hd, hd2⟩ := Mo.bind_some hd
    have KJ : V K 2 h1 28 [(1, .ref v2)] [.int (b2i u4), .ref t] := by
      clear hd
      have hd := hd2
      refine v_iconst (v := 1) X dX9_read_28 (by decide) ?_
      refine v_callUX X hd hle (ct_X6_must _ t u4 1) hu_X9_55 rfl dn_X6_must rfl q116 q764 ⟨by decide, by decide⟩ rfl (Nat.le_of_ble_eq_true rfl) dX9_read_29 (fun v5 h hd => ?_) (fun b h hd => ?_)
      · show V K 2 h 32 [(1, .ref v2)] []
        have hd := cs_r hd
        refine v_aload_n X dX9_read_32 0 1 rfl rfl ?_
        obtain ⟨rfl, hx⟩ := px_inr hd
        exact v_aret X rfl (Or.inl ⟨_, rfl⟩) hx ho dX9_read_33
      · have hd := cs_l hd
        obtain ⟨rfl, hh⟩ := px_inl hd
        exact vx_leave X hex ho hh
    have hle := (Mo.le hd2).tr hle
    clear hd2
    refine v_if_ne (tgt := 27) X dX9_read_20 (by decide) (fun q => ?_) (fun q => ?_)
    · have hd := ite_f q hd
      refine v_iconst (v := 0) X dX9_read_27 (by decide) ?_
      exact v_loc [0] rfl (v_at (P := fun (u4 : Bool) h => V K 2 h 28 [(1, .ref v2)] [.int (b2i u4), .ref t]) hd KJ)
    · have hd := ite_t q hd
      refine v_iconst (v := 1) X dX9_read_23 (by decide) ?_
      refine v_goto (tgt := 28) X dX9_read_24 (by decide) ?_
      exact v_loc [0] rfl (v_at (P := fun (u4 : Bool) h => V K 2 h 28 [(1, .ref v2)] [.int (b2i u4), .ref t]) hd KJ)
  · have hd := cs_l hd
    obtain ⟨rfl, hh⟩ := px_inl hd
    exact vx_leave X hex ho hh
