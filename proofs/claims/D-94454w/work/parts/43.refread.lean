set_option maxRecDepth 100000
def dkwX10_readOr_2 : List UInt8 := [167, 255, 222, 42, 27, 181, 1, 185, 4, 172]
abbrev dktX10_readOr_2 : List UInt8 := dkwX10_readOr_2 ++ []
def dkwX10_readOr_1 : List UInt8 := [182, 0, 194, 42, 182, 1, 182, 154, 0, 5, 3, 172, 42, 6, 27, 42, 180, 1, 185, 3, 182, 1, 188, 60]
abbrev dktX10_readOr_1 : List UInt8 := dkwX10_readOr_1 ++ dktX10_readOr_2
def dkwX10_readOr_0 : List UInt8 := [42, 182, 1, 182, 154, 0, 5, 3, 172, 42, 180, 1, 185, 60, 42, 16, 17, 182, 0, 224, 153, 0, 31, 42]
abbrev dktX10_readOr_0 : List UInt8 := dkwX10_readOr_0 ++ dktX10_readOr_1
theorem dksX10_readOr_0 : cX10_readOr.data.toList.drop 0 = dktX10_readOr_0 := by decide +kernel
theorem dksX10_readOr_1 : cX10_readOr.data.toList.drop 24 = dktX10_readOr_1 := dk_seg dksX10_readOr_0 24 rfl rfl
theorem dksX10_readOr_2 : cX10_readOr.data.toList.drop 48 = dktX10_readOr_2 := dk_seg dksX10_readOr_1 24 rfl rfl
theorem dX10_readOr_0 : decode cX10_readOr 0 = .ok (.aload_n 0, 1) := dk_42 (dk_at dksX10_readOr_0 0 rfl rfl)
theorem dX10_readOr_1 : decode cX10_readOr 1 = .ok (.invokevirtual 438, 3) := dk_182 1 182 (dk_at dksX10_readOr_0 1 rfl rfl)
theorem dX10_readOr_4 : decode cX10_readOr 4 = .ok (.ifCond .ne 5, 3) := dk_154 0 5 (dk_at dksX10_readOr_0 4 rfl rfl)
theorem dX10_readOr_7 : decode cX10_readOr 7 = .ok (.iconst 0, 1) := dk_3 (dk_at dksX10_readOr_0 7 rfl rfl)
theorem dX10_readOr_8 : decode cX10_readOr 8 = .ok (.ireturn, 1) := dk_172 (dk_at dksX10_readOr_0 8 rfl rfl)
theorem dX10_readOr_9 : decode cX10_readOr 9 = .ok (.aload_n 0, 1) := dk_42 (dk_at dksX10_readOr_0 9 rfl rfl)
theorem dX10_readOr_10 : decode cX10_readOr 10 = .ok (.getfield 441, 3) := dk_180 1 185 (dk_at dksX10_readOr_0 10 rfl rfl)
theorem dX10_readOr_13 : decode cX10_readOr 13 = .ok (.istore_n 1, 1) := dk_60 (dk_at dksX10_readOr_0 13 rfl rfl)
theorem dX10_readOr_14 : decode cX10_readOr 14 = .ok (.aload_n 0, 1) := dk_42 (dk_at dksX10_readOr_0 14 rfl rfl)
theorem dX10_readOr_15 : decode cX10_readOr 15 = .ok (.bipush 17, 2) := dk_16 17 (dk_at dksX10_readOr_0 15 rfl rfl)
theorem dX10_readOr_17 : decode cX10_readOr 17 = .ok (.invokevirtual 224, 3) := dk_182 0 224 (dk_at dksX10_readOr_0 17 rfl rfl)
theorem dX10_readOr_20 : decode cX10_readOr 20 = .ok (.ifCond .eq 31, 3) := dk_153 0 31 (dk_at dksX10_readOr_0 20 rfl rfl)
theorem dX10_readOr_23 : decode cX10_readOr 23 = .ok (.aload_n 0, 1) := dk_42 (dk_at dksX10_readOr_0 23 rfl rfl)
theorem dX10_readOr_24 : decode cX10_readOr 24 = .ok (.invokevirtual 194, 3) := dk_182 0 194 (dk_at dksX10_readOr_1 0 rfl rfl)
theorem dX10_readOr_27 : decode cX10_readOr 27 = .ok (.aload_n 0, 1) := dk_42 (dk_at dksX10_readOr_1 3 rfl rfl)
theorem dX10_readOr_28 : decode cX10_readOr 28 = .ok (.invokevirtual 438, 3) := dk_182 1 182 (dk_at dksX10_readOr_1 4 rfl rfl)
theorem dX10_readOr_31 : decode cX10_readOr 31 = .ok (.ifCond .ne 5, 3) := dk_154 0 5 (dk_at dksX10_readOr_1 7 rfl rfl)
theorem dX10_readOr_34 : decode cX10_readOr 34 = .ok (.iconst 0, 1) := dk_3 (dk_at dksX10_readOr_1 10 rfl rfl)
theorem dX10_readOr_35 : decode cX10_readOr 35 = .ok (.ireturn, 1) := dk_172 (dk_at dksX10_readOr_1 11 rfl rfl)
theorem dX10_readOr_36 : decode cX10_readOr 36 = .ok (.aload_n 0, 1) := dk_42 (dk_at dksX10_readOr_1 12 rfl rfl)
theorem dX10_readOr_37 : decode cX10_readOr 37 = .ok (.iconst 3, 1) := dk_6 (dk_at dksX10_readOr_1 13 rfl rfl)
theorem dX10_readOr_38 : decode cX10_readOr 38 = .ok (.iload_n 1, 1) := dk_27 (dk_at dksX10_readOr_1 14 rfl rfl)
theorem dX10_readOr_39 : decode cX10_readOr 39 = .ok (.aload_n 0, 1) := dk_42 (dk_at dksX10_readOr_1 15 rfl rfl)
theorem dX10_readOr_40 : decode cX10_readOr 40 = .ok (.getfield 441, 3) := dk_180 1 185 (dk_at dksX10_readOr_1 16 rfl rfl)
theorem dX10_readOr_43 : decode cX10_readOr 43 = .ok (.iconst 0, 1) := dk_3 (dk_at dksX10_readOr_1 19 rfl rfl)
theorem dX10_readOr_44 : decode cX10_readOr 44 = .ok (.invokevirtual 444, 3) := dk_182 1 188 (dk_at dksX10_readOr_1 20 rfl rfl)
theorem dX10_readOr_47 : decode cX10_readOr 47 = .ok (.istore_n 1, 1) := dk_60 (dk_at dksX10_readOr_1 23 rfl rfl)
theorem dX10_readOr_48 : decode cX10_readOr 48 = .ok (.goto (-34), 3) := dk_167 255 222 (dk_at dksX10_readOr_2 0 rfl rfl)
theorem dX10_readOr_51 : decode cX10_readOr 51 = .ok (.aload_n 0, 1) := dk_42 (dk_at dksX10_readOr_2 3 rfl rfl)
theorem dX10_readOr_52 : decode cX10_readOr 52 = .ok (.iload_n 1, 1) := dk_27 (dk_at dksX10_readOr_2 4 rfl rfl)
theorem dX10_readOr_53 : decode cX10_readOr 53 = .ok (.putfield 441, 3) := dk_181 1 185 (dk_at dksX10_readOr_2 5 rfl rfl)
theorem dX10_readOr_56 : decode cX10_readOr 56 = .ok (.iconst 1, 1) := dk_4 (dk_at dksX10_readOr_2 8 rfl rfl)
theorem dX10_readOr_57 : decode cX10_readOr 57 = .ok (.ireturn, 1) := dk_172 (dk_at dksX10_readOr_2 9 rfl rfl)
theorem fl_X10_441 : gFl "BitingDoorsModel" 441 [8] 63 := by
  intro args s hts hN ci hc
  simp only [List.mem_cons, List.not_mem_nil, or_false] at hc
  subst hc
  exact ⟨RX10, TX10, 64, "BitingDoorsModel", gCl_X10, in_X10, by decide, Or.inl (hts _ q1713), fun _ h => h⟩
theorem dn_X10_readOr : yX10_readOr.cls ≠ "java/lang/invoke/MethodHandle" ∧ yX10_readOr.cls ≠ "java/lang/invoke/VarHandle" ∧ (parseMethodDescriptor yX10_readOr.desc).map (fun d => d.parameters.length) = some 0 := by decide +kernel
noncomputable def B_X10_readOr (Rc : Nat → TM Bool) : TM Bool := TM.bind (Rc 1) (fun v1 => cond v1 (TM.bind (tI 63) (fun v2 => TM.loop (S := Int32) (fun s3 => TM.bind (M_X10_isWord 17) (fun v6 => cond v6 (TM.bind (M_X10_go) (fun v7 => TM.bind (Rc 1) (fun v8 => cond v8 (TM.bind (tI 63) (fun v9 => TM.bind (M_X10_lays 3 s3 v9 0) (fun v10 => TM.pure (Sum.inl v10)))) (TM.pure (Sum.inr false))))) (TM.bind (sI 63 s3) (fun _ => TM.pure (Sum.inr true))))) v2)) (TM.pure false))
def dkwX10_readAnd_2 : List UInt8 := [167, 255, 222, 42, 27, 181, 1, 185, 4, 172]
abbrev dktX10_readAnd_2 : List UInt8 := dkwX10_readAnd_2 ++ []
def dkwX10_readAnd_1 : List UInt8 := [182, 0, 194, 42, 182, 1, 191, 154, 0, 5, 3, 172, 42, 5, 27, 42, 180, 1, 185, 3, 182, 1, 188, 60]
abbrev dktX10_readAnd_1 : List UInt8 := dkwX10_readAnd_1 ++ dktX10_readAnd_2
def dkwX10_readAnd_0 : List UInt8 := [42, 182, 1, 191, 154, 0, 5, 3, 172, 42, 180, 1, 185, 60, 42, 16, 18, 182, 0, 224, 153, 0, 31, 42]
abbrev dktX10_readAnd_0 : List UInt8 := dkwX10_readAnd_0 ++ dktX10_readAnd_1
theorem dksX10_readAnd_0 : cX10_readAnd.data.toList.drop 0 = dktX10_readAnd_0 := by decide +kernel
theorem dksX10_readAnd_1 : cX10_readAnd.data.toList.drop 24 = dktX10_readAnd_1 := dk_seg dksX10_readAnd_0 24 rfl rfl
theorem dksX10_readAnd_2 : cX10_readAnd.data.toList.drop 48 = dktX10_readAnd_2 := dk_seg dksX10_readAnd_1 24 rfl rfl
theorem dX10_readAnd_0 : decode cX10_readAnd 0 = .ok (.aload_n 0, 1) := dk_42 (dk_at dksX10_readAnd_0 0 rfl rfl)
theorem dX10_readAnd_1 : decode cX10_readAnd 1 = .ok (.invokevirtual 447, 3) := dk_182 1 191 (dk_at dksX10_readAnd_0 1 rfl rfl)
theorem dX10_readAnd_4 : decode cX10_readAnd 4 = .ok (.ifCond .ne 5, 3) := dk_154 0 5 (dk_at dksX10_readAnd_0 4 rfl rfl)
theorem dX10_readAnd_7 : decode cX10_readAnd 7 = .ok (.iconst 0, 1) := dk_3 (dk_at dksX10_readAnd_0 7 rfl rfl)
theorem dX10_readAnd_8 : decode cX10_readAnd 8 = .ok (.ireturn, 1) := dk_172 (dk_at dksX10_readAnd_0 8 rfl rfl)
theorem dX10_readAnd_9 : decode cX10_readAnd 9 = .ok (.aload_n 0, 1) := dk_42 (dk_at dksX10_readAnd_0 9 rfl rfl)
theorem dX10_readAnd_10 : decode cX10_readAnd 10 = .ok (.getfield 441, 3) := dk_180 1 185 (dk_at dksX10_readAnd_0 10 rfl rfl)
theorem dX10_readAnd_13 : decode cX10_readAnd 13 = .ok (.istore_n 1, 1) := dk_60 (dk_at dksX10_readAnd_0 13 rfl rfl)
theorem dX10_readAnd_14 : decode cX10_readAnd 14 = .ok (.aload_n 0, 1) := dk_42 (dk_at dksX10_readAnd_0 14 rfl rfl)
theorem dX10_readAnd_15 : decode cX10_readAnd 15 = .ok (.bipush 18, 2) := dk_16 18 (dk_at dksX10_readAnd_0 15 rfl rfl)
theorem dX10_readAnd_17 : decode cX10_readAnd 17 = .ok (.invokevirtual 224, 3) := dk_182 0 224 (dk_at dksX10_readAnd_0 17 rfl rfl)
theorem dX10_readAnd_20 : decode cX10_readAnd 20 = .ok (.ifCond .eq 31, 3) := dk_153 0 31 (dk_at dksX10_readAnd_0 20 rfl rfl)
theorem dX10_readAnd_23 : decode cX10_readAnd 23 = .ok (.aload_n 0, 1) := dk_42 (dk_at dksX10_readAnd_0 23 rfl rfl)
theorem dX10_readAnd_24 : decode cX10_readAnd 24 = .ok (.invokevirtual 194, 3) := dk_182 0 194 (dk_at dksX10_readAnd_1 0 rfl rfl)
theorem dX10_readAnd_27 : decode cX10_readAnd 27 = .ok (.aload_n 0, 1) := dk_42 (dk_at dksX10_readAnd_1 3 rfl rfl)
theorem dX10_readAnd_28 : decode cX10_readAnd 28 = .ok (.invokevirtual 447, 3) := dk_182 1 191 (dk_at dksX10_readAnd_1 4 rfl rfl)
theorem dX10_readAnd_31 : decode cX10_readAnd 31 = .ok (.ifCond .ne 5, 3) := dk_154 0 5 (dk_at dksX10_readAnd_1 7 rfl rfl)
theorem dX10_readAnd_34 : decode cX10_readAnd 34 = .ok (.iconst 0, 1) := dk_3 (dk_at dksX10_readAnd_1 10 rfl rfl)
theorem dX10_readAnd_35 : decode cX10_readAnd 35 = .ok (.ireturn, 1) := dk_172 (dk_at dksX10_readAnd_1 11 rfl rfl)
theorem dX10_readAnd_36 : decode cX10_readAnd 36 = .ok (.aload_n 0, 1) := dk_42 (dk_at dksX10_readAnd_1 12 rfl rfl)
theorem dX10_readAnd_37 : decode cX10_readAnd 37 = .ok (.iconst 2, 1) := dk_5 (dk_at dksX10_readAnd_1 13 rfl rfl)
theorem dX10_readAnd_38 : decode cX10_readAnd 38 = .ok (.iload_n 1, 1) := dk_27 (dk_at dksX10_readAnd_1 14 rfl rfl)
theorem dX10_readAnd_39 : decode cX10_readAnd 39 = .ok (.aload_n 0, 1) := dk_42 (dk_at dksX10_readAnd_1 15 rfl rfl)
theorem dX10_readAnd_40 : decode cX10_readAnd 40 = .ok (.getfield 441, 3) := dk_180 1 185 (dk_at dksX10_readAnd_1 16 rfl rfl)
theorem dX10_readAnd_43 : decode cX10_readAnd 43 = .ok (.iconst 0, 1) := dk_3 (dk_at dksX10_readAnd_1 19 rfl rfl)
theorem dX10_readAnd_44 : decode cX10_readAnd 44 = .ok (.invokevirtual 444, 3) := dk_182 1 188 (dk_at dksX10_readAnd_1 20 rfl rfl)
theorem dX10_readAnd_47 : decode cX10_readAnd 47 = .ok (.istore_n 1, 1) := dk_60 (dk_at dksX10_readAnd_1 23 rfl rfl)
theorem dX10_readAnd_48 : decode cX10_readAnd 48 = .ok (.goto (-34), 3) := dk_167 255 222 (dk_at dksX10_readAnd_2 0 rfl rfl)
theorem dX10_readAnd_51 : decode cX10_readAnd 51 = .ok (.aload_n 0, 1) := dk_42 (dk_at dksX10_readAnd_2 3 rfl rfl)
theorem dX10_readAnd_52 : decode cX10_readAnd 52 = .ok (.iload_n 1, 1) := dk_27 (dk_at dksX10_readAnd_2 4 rfl rfl)
theorem dX10_readAnd_53 : decode cX10_readAnd 53 = .ok (.putfield 441, 3) := dk_181 1 185 (dk_at dksX10_readAnd_2 5 rfl rfl)
theorem dX10_readAnd_56 : decode cX10_readAnd 56 = .ok (.iconst 1, 1) := dk_4 (dk_at dksX10_readAnd_2 8 rfl rfl)
theorem dX10_readAnd_57 : decode cX10_readAnd 57 = .ok (.ireturn, 1) := dk_172 (dk_at dksX10_readAnd_2 9 rfl rfl)
theorem dn_X10_readAnd : yX10_readAnd.cls ≠ "java/lang/invoke/MethodHandle" ∧ yX10_readAnd.cls ≠ "java/lang/invoke/VarHandle" ∧ (parseMethodDescriptor yX10_readAnd.desc).map (fun d => d.parameters.length) = some 0 := by decide +kernel
noncomputable def B_X10_readAnd (Rc : Nat → TM Bool) : TM Bool := TM.bind (Rc 2) (fun v1 => cond v1 (TM.bind (tI 63) (fun v2 => TM.loop (S := Int32) (fun s3 => TM.bind (M_X10_isWord 18) (fun v6 => cond v6 (TM.bind (M_X10_go) (fun v7 => TM.bind (Rc 2) (fun v8 => cond v8 (TM.bind (tI 63) (fun v9 => TM.bind (M_X10_lays 2 s3 v9 0) (fun v10 => TM.pure (Sum.inl v10)))) (TM.pure (Sum.inr false))))) (TM.bind (sI 63 s3) (fun _ => TM.pure (Sum.inr true))))) v2)) (TM.pure false))
def dkwX10_readOne_7 : List UInt8 := [182, 1, 209, 167, 0, 8, 42, 28, 182, 1, 212, 62, 42, 89, 180, 1, 200, 4, 100, 181, 1, 200, 29, 172]
abbrev dktX10_readOne_7 : List UInt8 := dkwX10_readOne_7 ++ []
def dkwX10_readOne_6 : List UInt8 := [167, 0, 5, 16, 6, 3, 3, 3, 182, 1, 188, 181, 1, 185, 167, 0, 22, 28, 16, 22, 160, 0, 10, 42]
abbrev dktX10_readOne_6 : List UInt8 := dkwX10_readOne_6 ++ dktX10_readOne_7
def dkwX10_readOne_5 : List UInt8 := [160, 0, 39, 42, 42, 28, 16, 10, 160, 0, 7, 7, 167, 0, 15, 28, 16, 20, 160, 0, 7, 8]
abbrev dktX10_readOne_5 : List UInt8 := dkwX10_readOne_5 ++ dktX10_readOne_6
def dkwX10_readOne_4 : List UInt8 := [42, 182, 1, 206, 62, 167, 0, 76, 28, 16, 10, 159, 0, 15, 28, 16, 20, 159, 0, 9, 28, 16, 21]
abbrev dktX10_readOne_4 : List UInt8 := dkwX10_readOne_4 ++ dktX10_readOne_5
def dkwX10_readOne_3 : List UInt8 := [42, 182, 0, 194, 4, 62, 27, 153, 0, 11, 42, 182, 1, 203, 62, 167, 0, 90, 28, 16, 19, 160, 0, 11]
abbrev dktX10_readOne_3 : List UInt8 := dkwX10_readOne_3 ++ dktX10_readOne_4
def dkwX10_readOne_2 : List UInt8 := [182, 0, 184, 172, 42, 89, 180, 1, 197, 4, 96, 181, 1, 197, 42, 89, 180, 1, 200, 4, 96, 181, 1, 200]
abbrev dktX10_readOne_2 : List UInt8 := dkwX10_readOne_2 ++ dktX10_readOne_3
def dkwX10_readOne_1 : List UInt8 := [182, 0, 184, 172, 42, 180, 1, 197, 16, 20, 159, 0, 12, 42, 180, 1, 200, 16, 8, 160, 0, 9, 42, 7]
abbrev dktX10_readOne_1 : List UInt8 := dkwX10_readOne_1 ++ dktX10_readOne_2
def dkwX10_readOne_0 : List UInt8 := [42, 16, 40, 182, 0, 197, 60, 42, 182, 1, 194, 61, 27, 154, 0, 14, 28, 2, 160, 0, 9, 42, 4]
abbrev dktX10_readOne_0 : List UInt8 := dkwX10_readOne_0 ++ dktX10_readOne_1
theorem dksX10_readOne_0 : cX10_readOne.data.toList.drop 0 = dktX10_readOne_0 := by decide +kernel
theorem dksX10_readOne_1 : cX10_readOne.data.toList.drop 23 = dktX10_readOne_1 := dk_seg dksX10_readOne_0 23 rfl rfl
theorem dksX10_readOne_2 : cX10_readOne.data.toList.drop 47 = dktX10_readOne_2 := dk_seg dksX10_readOne_1 24 rfl rfl
theorem dksX10_readOne_3 : cX10_readOne.data.toList.drop 71 = dktX10_readOne_3 := dk_seg dksX10_readOne_2 24 rfl rfl
theorem dksX10_readOne_4 : cX10_readOne.data.toList.drop 95 = dktX10_readOne_4 := dk_seg dksX10_readOne_3 24 rfl rfl
theorem dksX10_readOne_5 : cX10_readOne.data.toList.drop 118 = dktX10_readOne_5 := dk_seg dksX10_readOne_4 23 rfl rfl
theorem dksX10_readOne_6 : cX10_readOne.data.toList.drop 140 = dktX10_readOne_6 := dk_seg dksX10_readOne_5 22 rfl rfl
theorem dksX10_readOne_7 : cX10_readOne.data.toList.drop 164 = dktX10_readOne_7 := dk_seg dksX10_readOne_6 24 rfl rfl
theorem dX10_readOne_0 : decode cX10_readOne 0 = .ok (.aload_n 0, 1) := dk_42 (dk_at dksX10_readOne_0 0 rfl rfl)
theorem dX10_readOne_1 : decode cX10_readOne 1 = .ok (.bipush 40, 2) := dk_16 40 (dk_at dksX10_readOne_0 1 rfl rfl)
theorem dX10_readOne_3 : decode cX10_readOne 3 = .ok (.invokevirtual 197, 3) := dk_182 0 197 (dk_at dksX10_readOne_0 3 rfl rfl)
theorem dX10_readOne_6 : decode cX10_readOne 6 = .ok (.istore_n 1, 1) := dk_60 (dk_at dksX10_readOne_0 6 rfl rfl)
theorem dX10_readOne_7 : decode cX10_readOne 7 = .ok (.aload_n 0, 1) := dk_42 (dk_at dksX10_readOne_0 7 rfl rfl)
theorem dX10_readOne_8 : decode cX10_readOne 8 = .ok (.invokevirtual 450, 3) := dk_182 1 194 (dk_at dksX10_readOne_0 8 rfl rfl)
theorem dX10_readOne_11 : decode cX10_readOne 11 = .ok (.istore_n 2, 1) := dk_61 (dk_at dksX10_readOne_0 11 rfl rfl)
theorem dX10_readOne_12 : decode cX10_readOne 12 = .ok (.iload_n 1, 1) := dk_27 (dk_at dksX10_readOne_0 12 rfl rfl)
theorem dX10_readOne_13 : decode cX10_readOne 13 = .ok (.ifCond .ne 14, 3) := dk_154 0 14 (dk_at dksX10_readOne_0 13 rfl rfl)
theorem dX10_readOne_16 : decode cX10_readOne 16 = .ok (.iload_n 2, 1) := dk_28 (dk_at dksX10_readOne_0 16 rfl rfl)
theorem dX10_readOne_17 : decode cX10_readOne 17 = .ok (.iconst (-1), 1) := dk_2 (dk_at dksX10_readOne_0 17 rfl rfl)
theorem dX10_readOne_18 : decode cX10_readOne 18 = .ok (.if_icmp .ne 9, 3) := dk_160 0 9 (dk_at dksX10_readOne_0 18 rfl rfl)
theorem dX10_readOne_21 : decode cX10_readOne 21 = .ok (.aload_n 0, 1) := dk_42 (dk_at dksX10_readOne_0 21 rfl rfl)
theorem dX10_readOne_22 : decode cX10_readOne 22 = .ok (.iconst 1, 1) := dk_4 (dk_at dksX10_readOne_0 22 rfl rfl)
theorem dX10_readOne_23 : decode cX10_readOne 23 = .ok (.invokevirtual 184, 3) := dk_182 0 184 (dk_at dksX10_readOne_1 0 rfl rfl)
theorem dX10_readOne_26 : decode cX10_readOne 26 = .ok (.ireturn, 1) := dk_172 (dk_at dksX10_readOne_1 3 rfl rfl)
theorem dX10_readOne_27 : decode cX10_readOne 27 = .ok (.aload_n 0, 1) := dk_42 (dk_at dksX10_readOne_1 4 rfl rfl)
theorem dX10_readOne_28 : decode cX10_readOne 28 = .ok (.getfield 453, 3) := dk_180 1 197 (dk_at dksX10_readOne_1 5 rfl rfl)
theorem dX10_readOne_31 : decode cX10_readOne 31 = .ok (.bipush 20, 2) := dk_16 20 (dk_at dksX10_readOne_1 8 rfl rfl)
theorem dX10_readOne_33 : decode cX10_readOne 33 = .ok (.if_icmp .eq 12, 3) := dk_159 0 12 (dk_at dksX10_readOne_1 10 rfl rfl)
theorem dX10_readOne_36 : decode cX10_readOne 36 = .ok (.aload_n 0, 1) := dk_42 (dk_at dksX10_readOne_1 13 rfl rfl)
theorem dX10_readOne_37 : decode cX10_readOne 37 = .ok (.getfield 456, 3) := dk_180 1 200 (dk_at dksX10_readOne_1 14 rfl rfl)
theorem dX10_readOne_40 : decode cX10_readOne 40 = .ok (.bipush 8, 2) := dk_16 8 (dk_at dksX10_readOne_1 17 rfl rfl)
theorem dX10_readOne_42 : decode cX10_readOne 42 = .ok (.if_icmp .ne 9, 3) := dk_160 0 9 (dk_at dksX10_readOne_1 19 rfl rfl)
theorem dX10_readOne_45 : decode cX10_readOne 45 = .ok (.aload_n 0, 1) := dk_42 (dk_at dksX10_readOne_1 22 rfl rfl)
theorem dX10_readOne_46 : decode cX10_readOne 46 = .ok (.iconst 4, 1) := dk_7 (dk_at dksX10_readOne_1 23 rfl rfl)
theorem dX10_readOne_47 : decode cX10_readOne 47 = .ok (.invokevirtual 184, 3) := dk_182 0 184 (dk_at dksX10_readOne_2 0 rfl rfl)
theorem dX10_readOne_50 : decode cX10_readOne 50 = .ok (.ireturn, 1) := dk_172 (dk_at dksX10_readOne_2 3 rfl rfl)
theorem dX10_readOne_51 : decode cX10_readOne 51 = .ok (.aload_n 0, 1) := dk_42 (dk_at dksX10_readOne_2 4 rfl rfl)
theorem dX10_readOne_52 : decode cX10_readOne 52 = .ok (.dup, 1) := dk_89 (dk_at dksX10_readOne_2 5 rfl rfl)
theorem dX10_readOne_53 : decode cX10_readOne 53 = .ok (.getfield 453, 3) := dk_180 1 197 (dk_at dksX10_readOne_2 6 rfl rfl)
theorem dX10_readOne_56 : decode cX10_readOne 56 = .ok (.iconst 1, 1) := dk_4 (dk_at dksX10_readOne_2 9 rfl rfl)
theorem dX10_readOne_57 : decode cX10_readOne 57 = .ok (.iadd, 1) := dk_96 (dk_at dksX10_readOne_2 10 rfl rfl)
theorem dX10_readOne_58 : decode cX10_readOne 58 = .ok (.putfield 453, 3) := dk_181 1 197 (dk_at dksX10_readOne_2 11 rfl rfl)
theorem dX10_readOne_61 : decode cX10_readOne 61 = .ok (.aload_n 0, 1) := dk_42 (dk_at dksX10_readOne_2 14 rfl rfl)
theorem dX10_readOne_62 : decode cX10_readOne 62 = .ok (.dup, 1) := dk_89 (dk_at dksX10_readOne_2 15 rfl rfl)
theorem dX10_readOne_63 : decode cX10_readOne 63 = .ok (.getfield 456, 3) := dk_180 1 200 (dk_at dksX10_readOne_2 16 rfl rfl)
theorem dX10_readOne_66 : decode cX10_readOne 66 = .ok (.iconst 1, 1) := dk_4 (dk_at dksX10_readOne_2 19 rfl rfl)
theorem dX10_readOne_67 : decode cX10_readOne 67 = .ok (.iadd, 1) := dk_96 (dk_at dksX10_readOne_2 20 rfl rfl)
theorem dX10_readOne_68 : decode cX10_readOne 68 = .ok (.putfield 456, 3) := dk_181 1 200 (dk_at dksX10_readOne_2 21 rfl rfl)
theorem dX10_readOne_71 : decode cX10_readOne 71 = .ok (.aload_n 0, 1) := dk_42 (dk_at dksX10_readOne_3 0 rfl rfl)
theorem dX10_readOne_72 : decode cX10_readOne 72 = .ok (.invokevirtual 194, 3) := dk_182 0 194 (dk_at dksX10_readOne_3 1 rfl rfl)
theorem dX10_readOne_75 : decode cX10_readOne 75 = .ok (.iconst 1, 1) := dk_4 (dk_at dksX10_readOne_3 4 rfl rfl)
theorem dX10_readOne_76 : decode cX10_readOne 76 = .ok (.istore_n 3, 1) := dk_62 (dk_at dksX10_readOne_3 5 rfl rfl)
theorem dX10_readOne_77 : decode cX10_readOne 77 = .ok (.iload_n 1, 1) := dk_27 (dk_at dksX10_readOne_3 6 rfl rfl)
theorem dX10_readOne_78 : decode cX10_readOne 78 = .ok (.ifCond .eq 11, 3) := dk_153 0 11 (dk_at dksX10_readOne_3 7 rfl rfl)
theorem dX10_readOne_81 : decode cX10_readOne 81 = .ok (.aload_n 0, 1) := dk_42 (dk_at dksX10_readOne_3 10 rfl rfl)
theorem dX10_readOne_82 : decode cX10_readOne 82 = .ok (.invokevirtual 459, 3) := dk_182 1 203 (dk_at dksX10_readOne_3 11 rfl rfl)
theorem dX10_readOne_85 : decode cX10_readOne 85 = .ok (.istore_n 3, 1) := dk_62 (dk_at dksX10_readOne_3 14 rfl rfl)
theorem dX10_readOne_86 : decode cX10_readOne 86 = .ok (.goto 90, 3) := dk_167 0 90 (dk_at dksX10_readOne_3 15 rfl rfl)
theorem dX10_readOne_89 : decode cX10_readOne 89 = .ok (.iload_n 2, 1) := dk_28 (dk_at dksX10_readOne_3 18 rfl rfl)
theorem dX10_readOne_90 : decode cX10_readOne 90 = .ok (.bipush 19, 2) := dk_16 19 (dk_at dksX10_readOne_3 19 rfl rfl)
theorem dX10_readOne_92 : decode cX10_readOne 92 = .ok (.if_icmp .ne 11, 3) := dk_160 0 11 (dk_at dksX10_readOne_3 21 rfl rfl)
theorem dX10_readOne_95 : decode cX10_readOne 95 = .ok (.aload_n 0, 1) := dk_42 (dk_at dksX10_readOne_4 0 rfl rfl)
theorem dX10_readOne_96 : decode cX10_readOne 96 = .ok (.invokevirtual 462, 3) := dk_182 1 206 (dk_at dksX10_readOne_4 1 rfl rfl)
theorem dX10_readOne_99 : decode cX10_readOne 99 = .ok (.istore_n 3, 1) := dk_62 (dk_at dksX10_readOne_4 4 rfl rfl)
theorem dX10_readOne_100 : decode cX10_readOne 100 = .ok (.goto 76, 3) := dk_167 0 76 (dk_at dksX10_readOne_4 5 rfl rfl)
theorem dX10_readOne_103 : decode cX10_readOne 103 = .ok (.iload_n 2, 1) := dk_28 (dk_at dksX10_readOne_4 8 rfl rfl)
theorem dX10_readOne_104 : decode cX10_readOne 104 = .ok (.bipush 10, 2) := dk_16 10 (dk_at dksX10_readOne_4 9 rfl rfl)
theorem dX10_readOne_106 : decode cX10_readOne 106 = .ok (.if_icmp .eq 15, 3) := dk_159 0 15 (dk_at dksX10_readOne_4 11 rfl rfl)
theorem dX10_readOne_109 : decode cX10_readOne 109 = .ok (.iload_n 2, 1) := dk_28 (dk_at dksX10_readOne_4 14 rfl rfl)
theorem dX10_readOne_110 : decode cX10_readOne 110 = .ok (.bipush 20, 2) := dk_16 20 (dk_at dksX10_readOne_4 15 rfl rfl)
theorem dX10_readOne_112 : decode cX10_readOne 112 = .ok (.if_icmp .eq 9, 3) := dk_159 0 9 (dk_at dksX10_readOne_4 17 rfl rfl)
theorem dX10_readOne_115 : decode cX10_readOne 115 = .ok (.iload_n 2, 1) := dk_28 (dk_at dksX10_readOne_4 20 rfl rfl)
theorem dX10_readOne_116 : decode cX10_readOne 116 = .ok (.bipush 21, 2) := dk_16 21 (dk_at dksX10_readOne_4 21 rfl rfl)
theorem dX10_readOne_118 : decode cX10_readOne 118 = .ok (.if_icmp .ne 39, 3) := dk_160 0 39 (dk_at dksX10_readOne_5 0 rfl rfl)
theorem dX10_readOne_121 : decode cX10_readOne 121 = .ok (.aload_n 0, 1) := dk_42 (dk_at dksX10_readOne_5 3 rfl rfl)
theorem dX10_readOne_122 : decode cX10_readOne 122 = .ok (.aload_n 0, 1) := dk_42 (dk_at dksX10_readOne_5 4 rfl rfl)
theorem dX10_readOne_123 : decode cX10_readOne 123 = .ok (.iload_n 2, 1) := dk_28 (dk_at dksX10_readOne_5 5 rfl rfl)
theorem dX10_readOne_124 : decode cX10_readOne 124 = .ok (.bipush 10, 2) := dk_16 10 (dk_at dksX10_readOne_5 6 rfl rfl)
theorem dX10_readOne_126 : decode cX10_readOne 126 = .ok (.if_icmp .ne 7, 3) := dk_160 0 7 (dk_at dksX10_readOne_5 8 rfl rfl)
theorem dX10_readOne_129 : decode cX10_readOne 129 = .ok (.iconst 4, 1) := dk_7 (dk_at dksX10_readOne_5 11 rfl rfl)
theorem dX10_readOne_130 : decode cX10_readOne 130 = .ok (.goto 15, 3) := dk_167 0 15 (dk_at dksX10_readOne_5 12 rfl rfl)
theorem dX10_readOne_133 : decode cX10_readOne 133 = .ok (.iload_n 2, 1) := dk_28 (dk_at dksX10_readOne_5 15 rfl rfl)
theorem dX10_readOne_134 : decode cX10_readOne 134 = .ok (.bipush 20, 2) := dk_16 20 (dk_at dksX10_readOne_5 16 rfl rfl)
theorem dX10_readOne_136 : decode cX10_readOne 136 = .ok (.if_icmp .ne 7, 3) := dk_160 0 7 (dk_at dksX10_readOne_5 18 rfl rfl)
theorem dX10_readOne_139 : decode cX10_readOne 139 = .ok (.iconst 5, 1) := dk_8 (dk_at dksX10_readOne_5 21 rfl rfl)
theorem dX10_readOne_140 : decode cX10_readOne 140 = .ok (.goto 5, 3) := dk_167 0 5 (dk_at dksX10_readOne_6 0 rfl rfl)
theorem dX10_readOne_143 : decode cX10_readOne 143 = .ok (.bipush 6, 2) := dk_16 6 (dk_at dksX10_readOne_6 3 rfl rfl)
theorem dX10_readOne_145 : decode cX10_readOne 145 = .ok (.iconst 0, 1) := dk_3 (dk_at dksX10_readOne_6 5 rfl rfl)
theorem dX10_readOne_146 : decode cX10_readOne 146 = .ok (.iconst 0, 1) := dk_3 (dk_at dksX10_readOne_6 6 rfl rfl)
theorem dX10_readOne_147 : decode cX10_readOne 147 = .ok (.iconst 0, 1) := dk_3 (dk_at dksX10_readOne_6 7 rfl rfl)
theorem dX10_readOne_148 : decode cX10_readOne 148 = .ok (.invokevirtual 444, 3) := dk_182 1 188 (dk_at dksX10_readOne_6 8 rfl rfl)
theorem dX10_readOne_151 : decode cX10_readOne 151 = .ok (.putfield 441, 3) := dk_181 1 185 (dk_at dksX10_readOne_6 11 rfl rfl)
theorem dX10_readOne_154 : decode cX10_readOne 154 = .ok (.goto 22, 3) := dk_167 0 22 (dk_at dksX10_readOne_6 14 rfl rfl)
theorem dX10_readOne_157 : decode cX10_readOne 157 = .ok (.iload_n 2, 1) := dk_28 (dk_at dksX10_readOne_6 17 rfl rfl)
theorem dX10_readOne_158 : decode cX10_readOne 158 = .ok (.bipush 22, 2) := dk_16 22 (dk_at dksX10_readOne_6 18 rfl rfl)
theorem dX10_readOne_160 : decode cX10_readOne 160 = .ok (.if_icmp .ne 10, 3) := dk_160 0 10 (dk_at dksX10_readOne_6 20 rfl rfl)
theorem dX10_readOne_163 : decode cX10_readOne 163 = .ok (.aload_n 0, 1) := dk_42 (dk_at dksX10_readOne_6 23 rfl rfl)
theorem dX10_readOne_164 : decode cX10_readOne 164 = .ok (.invokevirtual 465, 3) := dk_182 1 209 (dk_at dksX10_readOne_7 0 rfl rfl)
theorem dX10_readOne_167 : decode cX10_readOne 167 = .ok (.goto 8, 3) := dk_167 0 8 (dk_at dksX10_readOne_7 3 rfl rfl)
theorem dX10_readOne_170 : decode cX10_readOne 170 = .ok (.aload_n 0, 1) := dk_42 (dk_at dksX10_readOne_7 6 rfl rfl)
theorem dX10_readOne_171 : decode cX10_readOne 171 = .ok (.iload_n 2, 1) := dk_28 (dk_at dksX10_readOne_7 7 rfl rfl)
theorem dX10_readOne_172 : decode cX10_readOne 172 = .ok (.invokevirtual 468, 3) := dk_182 1 212 (dk_at dksX10_readOne_7 8 rfl rfl)
theorem dX10_readOne_175 : decode cX10_readOne 175 = .ok (.istore_n 3, 1) := dk_62 (dk_at dksX10_readOne_7 11 rfl rfl)
theorem dX10_readOne_176 : decode cX10_readOne 176 = .ok (.aload_n 0, 1) := dk_42 (dk_at dksX10_readOne_7 12 rfl rfl)
theorem dX10_readOne_177 : decode cX10_readOne 177 = .ok (.dup, 1) := dk_89 (dk_at dksX10_readOne_7 13 rfl rfl)
theorem dX10_readOne_178 : decode cX10_readOne 178 = .ok (.getfield 456, 3) := dk_180 1 200 (dk_at dksX10_readOne_7 14 rfl rfl)
theorem dX10_readOne_181 : decode cX10_readOne 181 = .ok (.iconst 1, 1) := dk_4 (dk_at dksX10_readOne_7 17 rfl rfl)
theorem dX10_readOne_182 : decode cX10_readOne 182 = .ok (.isub, 1) := dk_100 (dk_at dksX10_readOne_7 18 rfl rfl)
theorem dX10_readOne_183 : decode cX10_readOne 183 = .ok (.putfield 456, 3) := dk_181 1 200 (dk_at dksX10_readOne_7 19 rfl rfl)
theorem dX10_readOne_186 : decode cX10_readOne 186 = .ok (.iload_n 3, 1) := dk_29 (dk_at dksX10_readOne_7 22 rfl rfl)
theorem dX10_readOne_187 : decode cX10_readOne 187 = .ok (.ireturn, 1) := dk_172 (dk_at dksX10_readOne_7 23 rfl rfl)
theorem fl_X10_453 : gFl "BitingDoorsModel" 453 [8] 61 := by
  intro args s hts hN ci hc
  simp only [List.mem_cons, List.not_mem_nil, or_false] at hc
  subst hc
  exact ⟨RX10, TX10, 64, "BitingDoorsModel", gCl_X10, in_X10, by decide, Or.inl (hts _ q1711), fun _ h => h⟩
theorem fl_X10_456 : gFl "BitingDoorsModel" 456 [8] 62 := by
  intro args s hts hN ci hc
  simp only [List.mem_cons, List.not_mem_nil, or_false] at hc
  subst hc
  exact ⟨RX10, TX10, 64, "BitingDoorsModel", gCl_X10, in_X10, by decide, Or.inl (hts _ q1712), fun _ h => h⟩
theorem fp_X10_453 {nm : String} : gFp "BitingDoorsModel" nm 453 [8] 61 .int := by
  intro args s hts hN ci hc
  simp only [List.mem_cons, List.not_mem_nil, or_false] at hc
  subst hc
  exact ⟨RX10, TX10, 64, "BitingDoorsModel", gCl_X10, in_X10, by decide, Or.inl ⟨rfl, Or.inl (hts _ q1711)⟩, fun _ h => h, rfl, fun D tys hK => gap_X10 hts hK⟩
theorem fp_X10_456 {nm : String} : gFp "BitingDoorsModel" nm 456 [8] 62 .int := by
  intro args s hts hN ci hc
  simp only [List.mem_cons, List.not_mem_nil, or_false] at hc
  subst hc
  exact ⟨RX10, TX10, 64, "BitingDoorsModel", gCl_X10, in_X10, by decide, Or.inl ⟨rfl, Or.inl (hts _ q1712)⟩, fun _ h => h, rfl, fun D tys hK => gap_X10 hts hK⟩
theorem dn_X10_readOne : yX10_readOne.cls ≠ "java/lang/invoke/MethodHandle" ∧ yX10_readOne.cls ≠ "java/lang/invoke/VarHandle" ∧ (parseMethodDescriptor yX10_readOne.desc).map (fun d => d.parameters.length) = some 0 := by decide +kernel
noncomputable def B_X10_readOne (Rc : Nat → TM Bool) : TM Bool := TM.bind (M_X10_isSign 40) (fun v1 => TM.bind (M_X10_oneAtHand) (fun v2 => cond v1 (TM.bind (tI 61) (fun v3 => if v3 = 20 then TM.bind (M_X10_bad 4) (fun v4 => TM.pure v4) else TM.bind (tI 62) (fun v5 => if v5 = 8 then TM.bind (M_X10_bad 4) (fun v22 => TM.pure v22) else TM.bind (tI 61) (fun v6 => TM.bind (sI 61 (v6 + 1)) (fun _ => TM.bind (tI 62) (fun v7 => TM.bind (sI 62 (v7 + 1)) (fun _ => TM.bind (M_X10_go) (fun v8 => TM.bind ((cond v1 (TM.bind (Rc 4) (fun v21 => TM.pure v21)) (if v2 = 19 then TM.bind (Rc 3) (fun v20 => TM.pure v20) else if v2 = 10 then TM.bind ((if v2 = 10 then TM.pure 4 else if v2 = 20 then TM.pure 5 else TM.pure 6 : TM (Int32))) (fun u11 => TM.bind (M_X10_lays u11 0 0 0) (fun v12 => TM.bind (sI 63 v12) (fun _ => TM.pure true))) else if v2 = 20 then TM.bind ((if v2 = 10 then TM.pure 4 else if v2 = 20 then TM.pure 5 else TM.pure 6 : TM (Int32))) (fun u13 => TM.bind (M_X10_lays u13 0 0 0) (fun v14 => TM.bind (sI 63 v14) (fun _ => TM.pure true))) else if v2 = 21 then TM.bind ((if v2 = 10 then TM.pure 4 else if v2 = 20 then TM.pure 5 else TM.pure 6 : TM (Int32))) (fun u18 => TM.bind (M_X10_lays u18 0 0 0) (fun v19 => TM.bind (sI 63 v19) (fun _ => TM.pure true))) else TM.bind ((if v2 = 22 then TM.bind (M_X10_readBites) (fun v17 => TM.pure v17) else TM.bind (M_X10_readCompare v2) (fun v16 => TM.pure v16) : TM (Bool))) (fun u15 => TM.pure u15)) : TM (Bool))) (fun u9 => TM.bind (tI 62) (fun v10 => TM.bind (sI 62 (v10 - 1)) (fun _ => TM.pure u9))))))))))) (if v2 = (-1) then TM.bind (M_X10_bad 1) (fun v43 => TM.pure v43) else TM.bind (tI 61) (fun v23 => if v23 = 20 then TM.bind (M_X10_bad 4) (fun v24 => TM.pure v24) else TM.bind (tI 62) (fun v25 => if v25 = 8 then TM.bind (M_X10_bad 4) (fun v42 => TM.pure v42) else TM.bind (tI 61) (fun v26 => TM.bind (sI 61 (v26 + 1)) (fun _ => TM.bind (tI 62) (fun v27 => TM.bind (sI 62 (v27 + 1)) (fun _ => TM.bind (M_X10_go) (fun v28 => TM.bind ((cond v1 (TM.bind (Rc 4) (fun v41 => TM.pure v41)) (if v2 = 19 then TM.bind (Rc 3) (fun v40 => TM.pure v40) else if v2 = 10 then TM.bind ((if v2 = 10 then TM.pure 4 else if v2 = 20 then TM.pure 5 else TM.pure 6 : TM (Int32))) (fun u31 => TM.bind (M_X10_lays u31 0 0 0) (fun v32 => TM.bind (sI 63 v32) (fun _ => TM.pure true))) else if v2 = 20 then TM.bind ((if v2 = 10 then TM.pure 4 else if v2 = 20 then TM.pure 5 else TM.pure 6 : TM (Int32))) (fun u33 => TM.bind (M_X10_lays u33 0 0 0) (fun v34 => TM.bind (sI 63 v34) (fun _ => TM.pure true))) else if v2 = 21 then TM.bind ((if v2 = 10 then TM.pure 4 else if v2 = 20 then TM.pure 5 else TM.pure 6 : TM (Int32))) (fun u38 => TM.bind (M_X10_lays u38 0 0 0) (fun v39 => TM.bind (sI 63 v39) (fun _ => TM.pure true))) else TM.bind ((if v2 = 22 then TM.bind (M_X10_readBites) (fun v37 => TM.pure v37) else TM.bind (M_X10_readCompare v2) (fun v36 => TM.pure v36) : TM (Bool))) (fun u35 => TM.pure u35)) : TM (Bool))) (fun u29 => TM.bind (tI 62) (fun v30 => TM.bind (sI 62 (v30 - 1)) (fun _ => TM.pure u29)))))))))))))
def dkwX10_readNot_1 : List UInt8 := [4, 172]
abbrev dktX10_readNot_1 : List UInt8 := dkwX10_readNot_1 ++ []
def dkwX10_readNot_0 : List UInt8 := [42, 182, 1, 191, 154, 0, 5, 3, 172, 42, 42, 4, 42, 180, 1, 185, 3, 3, 182, 1, 188, 181, 1, 185]
abbrev dktX10_readNot_0 : List UInt8 := dkwX10_readNot_0 ++ dktX10_readNot_1
theorem dksX10_readNot_0 : cX10_readNot.data.toList.drop 0 = dktX10_readNot_0 := by decide +kernel
theorem dksX10_readNot_1 : cX10_readNot.data.toList.drop 24 = dktX10_readNot_1 := dk_seg dksX10_readNot_0 24 rfl rfl
theorem dX10_readNot_0 : decode cX10_readNot 0 = .ok (.aload_n 0, 1) := dk_42 (dk_at dksX10_readNot_0 0 rfl rfl)
theorem dX10_readNot_1 : decode cX10_readNot 1 = .ok (.invokevirtual 447, 3) := dk_182 1 191 (dk_at dksX10_readNot_0 1 rfl rfl)
theorem dX10_readNot_4 : decode cX10_readNot 4 = .ok (.ifCond .ne 5, 3) := dk_154 0 5 (dk_at dksX10_readNot_0 4 rfl rfl)
theorem dX10_readNot_7 : decode cX10_readNot 7 = .ok (.iconst 0, 1) := dk_3 (dk_at dksX10_readNot_0 7 rfl rfl)
theorem dX10_readNot_8 : decode cX10_readNot 8 = .ok (.ireturn, 1) := dk_172 (dk_at dksX10_readNot_0 8 rfl rfl)
theorem dX10_readNot_9 : decode cX10_readNot 9 = .ok (.aload_n 0, 1) := dk_42 (dk_at dksX10_readNot_0 9 rfl rfl)
theorem dX10_readNot_10 : decode cX10_readNot 10 = .ok (.aload_n 0, 1) := dk_42 (dk_at dksX10_readNot_0 10 rfl rfl)
theorem dX10_readNot_11 : decode cX10_readNot 11 = .ok (.iconst 1, 1) := dk_4 (dk_at dksX10_readNot_0 11 rfl rfl)
theorem dX10_readNot_12 : decode cX10_readNot 12 = .ok (.aload_n 0, 1) := dk_42 (dk_at dksX10_readNot_0 12 rfl rfl)
theorem dX10_readNot_13 : decode cX10_readNot 13 = .ok (.getfield 441, 3) := dk_180 1 185 (dk_at dksX10_readNot_0 13 rfl rfl)
theorem dX10_readNot_16 : decode cX10_readNot 16 = .ok (.iconst 0, 1) := dk_3 (dk_at dksX10_readNot_0 16 rfl rfl)
theorem dX10_readNot_17 : decode cX10_readNot 17 = .ok (.iconst 0, 1) := dk_3 (dk_at dksX10_readNot_0 17 rfl rfl)
theorem dX10_readNot_18 : decode cX10_readNot 18 = .ok (.invokevirtual 444, 3) := dk_182 1 188 (dk_at dksX10_readNot_0 18 rfl rfl)
theorem dX10_readNot_21 : decode cX10_readNot 21 = .ok (.putfield 441, 3) := dk_181 1 185 (dk_at dksX10_readNot_0 21 rfl rfl)
theorem dX10_readNot_24 : decode cX10_readNot 24 = .ok (.iconst 1, 1) := dk_4 (dk_at dksX10_readNot_1 0 rfl rfl)
theorem dX10_readNot_25 : decode cX10_readNot 25 = .ok (.ireturn, 1) := dk_172 (dk_at dksX10_readNot_1 1 rfl rfl)
theorem dn_X10_readNot : yX10_readNot.cls ≠ "java/lang/invoke/MethodHandle" ∧ yX10_readNot.cls ≠ "java/lang/invoke/VarHandle" ∧ (parseMethodDescriptor yX10_readNot.desc).map (fun d => d.parameters.length) = some 0 := by decide +kernel
noncomputable def B_X10_readNot (Rc : Nat → TM Bool) : TM Bool := TM.bind (Rc 2) (fun v1 => cond v1 (TM.bind (tI 63) (fun v2 => TM.bind (M_X10_lays 1 v2 0 0) (fun v3 => TM.bind (sI 63 v3) (fun _ => TM.pure true)))) (TM.pure false))
def dkwX10_readBracket_1 : List UInt8 := [42, 182, 0, 194, 4, 172]
abbrev dktX10_readBracket_1 : List UInt8 := dkwX10_readBracket_1 ++ []
def dkwX10_readBracket_0 : List UInt8 := [42, 182, 1, 215, 154, 0, 5, 3, 172, 42, 16, 41, 182, 0, 197, 154, 0, 9, 42, 4, 182, 0, 184, 172]
abbrev dktX10_readBracket_0 : List UInt8 := dkwX10_readBracket_0 ++ dktX10_readBracket_1
theorem dksX10_readBracket_0 : cX10_readBracket.data.toList.drop 0 = dktX10_readBracket_0 := by decide +kernel
theorem dksX10_readBracket_1 : cX10_readBracket.data.toList.drop 24 = dktX10_readBracket_1 := dk_seg dksX10_readBracket_0 24 rfl rfl
theorem dX10_readBracket_0 : decode cX10_readBracket 0 = .ok (.aload_n 0, 1) := dk_42 (dk_at dksX10_readBracket_0 0 rfl rfl)
theorem dX10_readBracket_1 : decode cX10_readBracket 1 = .ok (.invokevirtual 471, 3) := dk_182 1 215 (dk_at dksX10_readBracket_0 1 rfl rfl)
theorem dX10_readBracket_4 : decode cX10_readBracket 4 = .ok (.ifCond .ne 5, 3) := dk_154 0 5 (dk_at dksX10_readBracket_0 4 rfl rfl)
theorem dX10_readBracket_7 : decode cX10_readBracket 7 = .ok (.iconst 0, 1) := dk_3 (dk_at dksX10_readBracket_0 7 rfl rfl)
theorem dX10_readBracket_8 : decode cX10_readBracket 8 = .ok (.ireturn, 1) := dk_172 (dk_at dksX10_readBracket_0 8 rfl rfl)
theorem dX10_readBracket_9 : decode cX10_readBracket 9 = .ok (.aload_n 0, 1) := dk_42 (dk_at dksX10_readBracket_0 9 rfl rfl)
theorem dX10_readBracket_10 : decode cX10_readBracket 10 = .ok (.bipush 41, 2) := dk_16 41 (dk_at dksX10_readBracket_0 10 rfl rfl)
theorem dX10_readBracket_12 : decode cX10_readBracket 12 = .ok (.invokevirtual 197, 3) := dk_182 0 197 (dk_at dksX10_readBracket_0 12 rfl rfl)
theorem dX10_readBracket_15 : decode cX10_readBracket 15 = .ok (.ifCond .ne 9, 3) := dk_154 0 9 (dk_at dksX10_readBracket_0 15 rfl rfl)
theorem dX10_readBracket_18 : decode cX10_readBracket 18 = .ok (.aload_n 0, 1) := dk_42 (dk_at dksX10_readBracket_0 18 rfl rfl)
theorem dX10_readBracket_19 : decode cX10_readBracket 19 = .ok (.iconst 1, 1) := dk_4 (dk_at dksX10_readBracket_0 19 rfl rfl)
theorem dX10_readBracket_20 : decode cX10_readBracket 20 = .ok (.invokevirtual 184, 3) := dk_182 0 184 (dk_at dksX10_readBracket_0 20 rfl rfl)
theorem dX10_readBracket_23 : decode cX10_readBracket 23 = .ok (.ireturn, 1) := dk_172 (dk_at dksX10_readBracket_0 23 rfl rfl)
theorem dX10_readBracket_24 : decode cX10_readBracket 24 = .ok (.aload_n 0, 1) := dk_42 (dk_at dksX10_readBracket_1 0 rfl rfl)
theorem dX10_readBracket_25 : decode cX10_readBracket 25 = .ok (.invokevirtual 194, 3) := dk_182 0 194 (dk_at dksX10_readBracket_1 1 rfl rfl)
theorem dX10_readBracket_28 : decode cX10_readBracket 28 = .ok (.iconst 1, 1) := dk_4 (dk_at dksX10_readBracket_1 4 rfl rfl)
theorem dX10_readBracket_29 : decode cX10_readBracket 29 = .ok (.ireturn, 1) := dk_172 (dk_at dksX10_readBracket_1 5 rfl rfl)
theorem dn_X10_readBracket : yX10_readBracket.cls ≠ "java/lang/invoke/MethodHandle" ∧ yX10_readBracket.cls ≠ "java/lang/invoke/VarHandle" ∧ (parseMethodDescriptor yX10_readBracket.desc).map (fun d => d.parameters.length) = some 0 := by decide +kernel
noncomputable def B_X10_readBracket (Rc : Nat → TM Bool) : TM Bool := TM.bind (Rc 0) (fun v1 => cond v1 (TM.bind (M_X10_isSign 41) (fun v2 => cond v2 (TM.bind (M_X10_go) (fun v3 => TM.pure true)) (TM.bind (M_X10_bad 1) (fun v4 => TM.pure v4)))) (TM.pure false))
noncomputable def N_X10_read : Nat → Nat → TM Bool
  | 0 => fun _ => TM.fail
  | n + 1 => fun k => match k with
    | 0 => B_X10_readOr (N_X10_read n)
    | 1 => B_X10_readAnd (N_X10_read n)
    | 2 => B_X10_readOne (N_X10_read n)
    | 3 => B_X10_readNot (N_X10_read n)
    | _ => B_X10_readBracket (N_X10_read n)
set_option maxHeartbeats 4000000 in
theorem st_X10_readOr (G : gG) (am n : Nat) (ih1 : gCtM G am yX10_readAnd cX10_readAnd 2 (some .boolean) (4 + n) (89 + n * 23) [.ref am] (N_X10_read n 1) (fun x : Bool => some (.int (b2i x)))) : gCtM G am yX10_readOr cX10_readOr 2 (some .boolean) (4 + (n + 1)) (89 + (n + 1) * 23) [.ref am] (B_X10_readOr (N_X10_read n)) (fun x : Bool => some (.int (b2i x))) := by
  refine gCtM.of (by decide) (Nat.le_of_ble_eq_true rfl) (fun K hn ms ms' r hG X hK hd ho => ?_)
  subst hG
  have X : gX K cX10_readOr 2 "BitingDoorsModel" "readOr" (some .boolean) (4 + (n + 1)) (89 + (n + 1) * 23) := X
  show V K 2 (mkM am hn ms) 0 [(0, .ref am)] []
  unfold B_X10_readOr at hd
  refine v_aload_n X dX10_readOr_0 0 0 rfl rfl ?_
  refine t_callV X hK hd (ih1) (lw_V q2284 q2286 qs98 q120 q2287) ⟨rfl, dn_X10_readAnd⟩ rfl ⟨by omega, by omega⟩ rfl (Nat.le_of_ble_eq_true rfl) dX10_readOr_1 (fun v1 ms hd => ?_)
  show V K 2 (mkM am hn ms) 4 [(0, .ref am)] [.int (b2i v1)]
  refine v_ifZ_ne (tgt := 9) X dX10_readOr_4 (by decide) (fun q => ?_) (fun q => ?_)
  · have hd := Tcnd_t q hd
    refine v_aload_n X dX10_readOr_9 0 0 rfl rfl ?_
    refine t_getI X hd rfl fl_X10_441 dX10_readOr_10 (fun v2 hd => ?_)
    refine v_istore_n (lv2 := [(1, .int v2), (0, .ref am)]) X dX10_readOr_13 1 rfl (by decide) rfl ?_
    refine v_loc [1, 0] rfl ?_
    refine Tloop_ind hd (fun (s3 : Int32) m => V K 2 (mkM am hn m) 14 [(0, .ref am), (1, .int s3)] []) (fun s3 ms x m2 hd ih4 ho5 => ?_)
    refine v_aload_n X dX10_readOr_14 0 0 rfl rfl ?_
    refine v_bipush (v := 17) X dX10_readOr_15 (by decide) ?_
    refine t_callV X hK hd (ct_X10_isWord _ am 17) (lw_V q1896 q1898 qs42 q120 q1899) ⟨rfl, dn_X10_isWord⟩ rfl ⟨by omega, by omega⟩ rfl (Nat.le_of_ble_eq_true rfl) dX10_readOr_17 (fun v6 ms hd => ?_)
    show V K 2 (mkM am hn ms) 20 [(0, .ref am), (1, .int s3)] [.int (b2i v6)]
    refine v_ifZ_eq (tgt := 51) X dX10_readOr_20 (by decide) (fun q => ?_) (fun q => ?_)
    · have hd := Tcnd_f q hd
      refine v_aload_n X dX10_readOr_51 0 0 rfl rfl ?_
      refine v_iload_n X dX10_readOr_52 1 1 rfl rfl ?_
      refine t_putI X hd rfl fp_X10_441 dX10_readOr_53 (fun ms hd => ?_)
      refine v_iconst (v := 1) X dX10_readOr_56 (by decide) ?_
      have hd := Tlp_out hd ho5
      exact t_zret X hK hd rfl ho dX10_readOr_57
    · have hd := Tcnd_t q hd
      refine v_aload_n X dX10_readOr_23 0 0 rfl rfl ?_
      refine t_callV X hK hd (ct_X10_go _ am) (lw_V q1876 q1878 qs39 q120 q1879) ⟨rfl, dn_X10_go⟩ rfl ⟨by omega, by omega⟩ rfl (Nat.le_of_ble_eq_true rfl) dX10_readOr_24 (fun v7 ms hd => ?_)
      show V K 2 (mkM am hn ms) 27 [(0, .ref am), (1, .int s3)] []
      refine v_aload_n X dX10_readOr_27 0 0 rfl rfl ?_
      refine t_callV X hK hd (ih1) (lw_V q2284 q2286 qs98 q120 q2287) ⟨rfl, dn_X10_readAnd⟩ rfl ⟨by omega, by omega⟩ rfl (Nat.le_of_ble_eq_true rfl) dX10_readOr_28 (fun v8 ms hd => ?_)
      show V K 2 (mkM am hn ms) 31 [(0, .ref am), (1, .int s3)] [.int (b2i v8)]
      refine v_ifZ_ne (tgt := 36) X dX10_readOr_31 (by decide) (fun q => ?_) (fun q => ?_)
      · have hd := Tcnd_t q hd
        refine v_aload_n X dX10_readOr_36 0 0 rfl rfl ?_
        refine v_iconst (v := 3) X dX10_readOr_37 (by decide) ?_
        refine v_iload_n X dX10_readOr_38 1 1 rfl rfl ?_
        refine v_aload_n X dX10_readOr_39 0 0 rfl rfl ?_
        refine t_getI X hd rfl fl_X10_441 dX10_readOr_40 (fun v9 hd => ?_)
        refine v_iconst (v := 0) X dX10_readOr_43 (by decide) ?_
        refine t_callV X hK hd (ct_X10_lays _ am 3 s3 v9 0) (lw_V q2304 q2306 qs103 q120 q2307) ⟨rfl, dn_X10_lays⟩ rfl ⟨by omega, by omega⟩ rfl (Nat.le_of_ble_eq_true rfl) dX10_readOr_44 (fun v10 ms hd => ?_)
        show V K 2 (mkM am hn ms) 47 [(0, .ref am), (1, .int s3)] [.int v10]
        refine v_istore_n (lv2 := [(1, .int v10), (0, .ref am)]) X dX10_readOr_47 1 rfl (by decide) rfl ?_
        refine v_goto (tgt := 14) X dX10_readOr_48 (by decide) ?_
        exact v_loc [1, 0] rfl (Tlp_in (P := fun (s3 : Int32) m => V K 2 (mkM am hn m) 14 [(0, .ref am), (1, .int s3)] []) hd ih4)
      · have hd := Tcnd_f q hd
        refine v_iconst (v := 0) X dX10_readOr_34 (by decide) ?_
        have hd := Tlp_out hd ho5
        exact t_zret X hK hd rfl ho dX10_readOr_35
  · have hd := Tcnd_f q hd
    refine v_iconst (v := 0) X dX10_readOr_7 (by decide) ?_
    exact t_zret X hK hd rfl ho dX10_readOr_8
set_option maxHeartbeats 4000000 in
theorem st_X10_readAnd (G : gG) (am n : Nat) (ih2 : gCtM G am yX10_readOne cX10_readOne 4 (some .boolean) (4 + n) (89 + n * 23) [.ref am] (N_X10_read n 2) (fun x : Bool => some (.int (b2i x)))) : gCtM G am yX10_readAnd cX10_readAnd 2 (some .boolean) (4 + (n + 1)) (89 + (n + 1) * 23) [.ref am] (B_X10_readAnd (N_X10_read n)) (fun x : Bool => some (.int (b2i x))) := by
  refine gCtM.of (by decide) (Nat.le_of_ble_eq_true rfl) (fun K hn ms ms' r hG X hK hd ho => ?_)
  subst hG
  have X : gX K cX10_readAnd 2 "BitingDoorsModel" "readAnd" (some .boolean) (4 + (n + 1)) (89 + (n + 1) * 23) := X
  show V K 2 (mkM am hn ms) 0 [(0, .ref am)] []
  unfold B_X10_readAnd at hd
  refine v_aload_n X dX10_readAnd_0 0 0 rfl rfl ?_
  refine t_callV X hK hd (ih2) (lw_V q2288 q2290 qs99 q120 q2291) ⟨rfl, dn_X10_readOne⟩ rfl ⟨by omega, by omega⟩ rfl (Nat.le_of_ble_eq_true rfl) dX10_readAnd_1 (fun v1 ms hd => ?_)
  show V K 2 (mkM am hn ms) 4 [(0, .ref am)] [.int (b2i v1)]
  refine v_ifZ_ne (tgt := 9) X dX10_readAnd_4 (by decide) (fun q => ?_) (fun q => ?_)
  · have hd := Tcnd_t q hd
    refine v_aload_n X dX10_readAnd_9 0 0 rfl rfl ?_
    refine t_getI X hd rfl fl_X10_441 dX10_readAnd_10 (fun v2 hd => ?_)
    refine v_istore_n (lv2 := [(1, .int v2), (0, .ref am)]) X dX10_readAnd_13 1 rfl (by decide) rfl ?_
    refine v_loc [1, 0] rfl ?_
    refine Tloop_ind hd (fun (s3 : Int32) m => V K 2 (mkM am hn m) 14 [(0, .ref am), (1, .int s3)] []) (fun s3 ms x m2 hd ih4 ho5 => ?_)
    refine v_aload_n X dX10_readAnd_14 0 0 rfl rfl ?_
    refine v_bipush (v := 18) X dX10_readAnd_15 (by decide) ?_
    refine t_callV X hK hd (ct_X10_isWord _ am 18) (lw_V q1896 q1898 qs42 q120 q1899) ⟨rfl, dn_X10_isWord⟩ rfl ⟨by omega, by omega⟩ rfl (Nat.le_of_ble_eq_true rfl) dX10_readAnd_17 (fun v6 ms hd => ?_)
    show V K 2 (mkM am hn ms) 20 [(0, .ref am), (1, .int s3)] [.int (b2i v6)]
    refine v_ifZ_eq (tgt := 51) X dX10_readAnd_20 (by decide) (fun q => ?_) (fun q => ?_)
    · have hd := Tcnd_f q hd
      refine v_aload_n X dX10_readAnd_51 0 0 rfl rfl ?_
      refine v_iload_n X dX10_readAnd_52 1 1 rfl rfl ?_
      refine t_putI X hd rfl fp_X10_441 dX10_readAnd_53 (fun ms hd => ?_)
      refine v_iconst (v := 1) X dX10_readAnd_56 (by decide) ?_
      have hd := Tlp_out hd ho5
      exact t_zret X hK hd rfl ho dX10_readAnd_57
    · have hd := Tcnd_t q hd
      refine v_aload_n X dX10_readAnd_23 0 0 rfl rfl ?_
      refine t_callV X hK hd (ct_X10_go _ am) (lw_V q1876 q1878 qs39 q120 q1879) ⟨rfl, dn_X10_go⟩ rfl ⟨by omega, by omega⟩ rfl (Nat.le_of_ble_eq_true rfl) dX10_readAnd_24 (fun v7 ms hd => ?_)
      show V K 2 (mkM am hn ms) 27 [(0, .ref am), (1, .int s3)] []
      refine v_aload_n X dX10_readAnd_27 0 0 rfl rfl ?_
      refine t_callV X hK hd (ih2) (lw_V q2288 q2290 qs99 q120 q2291) ⟨rfl, dn_X10_readOne⟩ rfl ⟨by omega, by omega⟩ rfl (Nat.le_of_ble_eq_true rfl) dX10_readAnd_28 (fun v8 ms hd => ?_)
      show V K 2 (mkM am hn ms) 31 [(0, .ref am), (1, .int s3)] [.int (b2i v8)]
      refine v_ifZ_ne (tgt := 36) X dX10_readAnd_31 (by decide) (fun q => ?_) (fun q => ?_)
      · have hd := Tcnd_t q hd
        refine v_aload_n X dX10_readAnd_36 0 0 rfl rfl ?_
        refine v_iconst (v := 2) X dX10_readAnd_37 (by decide) ?_
        refine v_iload_n X dX10_readAnd_38 1 1 rfl rfl ?_
        refine v_aload_n X dX10_readAnd_39 0 0 rfl rfl ?_
        refine t_getI X hd rfl fl_X10_441 dX10_readAnd_40 (fun v9 hd => ?_)
        refine v_iconst (v := 0) X dX10_readAnd_43 (by decide) ?_
        refine t_callV X hK hd (ct_X10_lays _ am 2 s3 v9 0) (lw_V q2304 q2306 qs103 q120 q2307) ⟨rfl, dn_X10_lays⟩ rfl ⟨by omega, by omega⟩ rfl (Nat.le_of_ble_eq_true rfl) dX10_readAnd_44 (fun v10 ms hd => ?_)
        show V K 2 (mkM am hn ms) 47 [(0, .ref am), (1, .int s3)] [.int v10]
        refine v_istore_n (lv2 := [(1, .int v10), (0, .ref am)]) X dX10_readAnd_47 1 rfl (by decide) rfl ?_
        refine v_goto (tgt := 14) X dX10_readAnd_48 (by decide) ?_
        exact v_loc [1, 0] rfl (Tlp_in (P := fun (s3 : Int32) m => V K 2 (mkM am hn m) 14 [(0, .ref am), (1, .int s3)] []) hd ih4)
      · have hd := Tcnd_f q hd
        refine v_iconst (v := 0) X dX10_readAnd_34 (by decide) ?_
        have hd := Tlp_out hd ho5
        exact t_zret X hK hd rfl ho dX10_readAnd_35
  · have hd := Tcnd_f q hd
    refine v_iconst (v := 0) X dX10_readAnd_7 (by decide) ?_
    exact t_zret X hK hd rfl ho dX10_readAnd_8
set_option maxHeartbeats 4000000 in
theorem st_X10_readOne (G : gG) (am n : Nat) (ih3 : gCtM G am yX10_readNot cX10_readNot 1 (some .boolean) (4 + n) (89 + n * 23) [.ref am] (N_X10_read n 3) (fun x : Bool => some (.int (b2i x)))) (ih4 : gCtM G am yX10_readBracket cX10_readBracket 1 (some .boolean) (4 + n) (89 + n * 23) [.ref am] (N_X10_read n 4) (fun x : Bool => some (.int (b2i x)))) : gCtM G am yX10_readOne cX10_readOne 4 (some .boolean) (4 + (n + 1)) (89 + (n + 1) * 23) [.ref am] (B_X10_readOne (N_X10_read n)) (fun x : Bool => some (.int (b2i x))) := by
  refine gCtM.of (by decide) (Nat.le_of_ble_eq_true rfl) (fun K hn ms ms' r hG X hK hd ho => ?_)
  subst hG
  have X : gX K cX10_readOne 4 "BitingDoorsModel" "readOne" (some .boolean) (4 + (n + 1)) (89 + (n + 1) * 23) := X
  show V K 4 (mkM am hn ms) 0 [(0, .ref am)] []
  unfold B_X10_readOne at hd
  refine v_aload_n X dX10_readOne_0 0 0 rfl rfl ?_
  refine v_bipush (v := 40) X dX10_readOne_1 (by decide) ?_
  refine t_callV X hK hd (ct_X10_isSign _ am 40) (lw_V q1962 q1964 qs54 q120 q1965) ⟨rfl, dn_X10_isSign⟩ rfl ⟨by omega, by omega⟩ rfl (Nat.le_of_ble_eq_true rfl) dX10_readOne_3 (fun v1 ms hd => ?_)
  show V K 4 (mkM am hn ms) 6 [(0, .ref am)] [.int (b2i v1)]
  refine v_istore_n (lv2 := [(1, .int (b2i v1)), (0, .ref am)]) X dX10_readOne_6 1 rfl (by decide) rfl ?_
  refine v_aload_n X dX10_readOne_7 1 0 rfl rfl ?_
  refine t_callV X hK hd (ct_X10_oneAtHand _ am) (lw_V q2292 q2294 qs100 q120 q2295) ⟨rfl, dn_X10_oneAtHand⟩ rfl ⟨by omega, by omega⟩ rfl (Nat.le_of_ble_eq_true rfl) dX10_readOne_8 (fun v2 ms hd => ?_)
  show V K 4 (mkM am hn ms) 11 [(1, .int (b2i v1)), (0, .ref am)] [.int v2]
  refine v_istore_n (lv2 := [(2, .int v2), (1, .int (b2i v1)), (0, .ref am)]) X dX10_readOne_11 2 rfl (by decide) rfl ?_
  refine v_iload_n X dX10_readOne_12 1 1 rfl rfl ?_
  refine v_ifZ_ne (tgt := 27) X dX10_readOne_13 (by decide) (fun q => ?_) (fun q => ?_)
  · have hd := Tcnd_t q hd
    refine v_aload_n X dX10_readOne_27 2 0 rfl rfl ?_
    refine t_getI X hd rfl fl_X10_453 dX10_readOne_28 (fun v3 hd => ?_)
    refine v_bipush (v := 20) X dX10_readOne_31 (by decide) ?_
    refine v_icmp_eq (tgt := 45) X dX10_readOne_33 (by decide) (fun q => ?_) (fun q => ?_)
    · have hd := Tite_t q hd
      refine v_aload_n X dX10_readOne_45 2 0 rfl rfl ?_
      refine v_iconst (v := 4) X dX10_readOne_46 (by decide) ?_
      refine t_callV X hK hd (ct_X10_bad _ am 4) (lw_V q1913 q1915 qs44 q120 q1916) ⟨rfl, dn_X10_bad⟩ rfl ⟨by omega, by omega⟩ rfl (Nat.le_of_ble_eq_true rfl) dX10_readOne_47 (fun v4 ms hd => ?_)
      show V K 4 (mkM am hn ms) 50 [(2, .int v2), (1, .int (b2i v1)), (0, .ref am)] [.int (b2i v4)]
      exact t_zret X hK hd rfl ho dX10_readOne_50
    · have hd := Tite_f q hd
      refine v_aload_n X dX10_readOne_36 2 0 rfl rfl ?_
      refine t_getI X hd rfl fl_X10_456 dX10_readOne_37 (fun v5 hd => ?_)
      refine v_bipush (v := 8) X dX10_readOne_40 (by decide) ?_
      refine v_icmp_ne (tgt := 51) X dX10_readOne_42 (by decide) (fun q => ?_) (fun q => ?_)
      · have hd := Tite_f q hd
        refine v_aload_n X dX10_readOne_51 2 0 rfl rfl ?_
        refine v_dup X dX10_readOne_52 rfl ?_
        refine t_getI X hd rfl fl_X10_453 dX10_readOne_53 (fun v6 hd => ?_)
        refine v_iconst (v := 1) X dX10_readOne_56 (by decide) ?_
        refine v_iadd X dX10_readOne_57 ?_
        refine t_putI X hd rfl fp_X10_453 dX10_readOne_58 (fun ms hd => ?_)
        refine v_aload_n X dX10_readOne_61 2 0 rfl rfl ?_
        refine v_dup X dX10_readOne_62 rfl ?_
        refine t_getI X hd rfl fl_X10_456 dX10_readOne_63 (fun v7 hd => ?_)
        refine v_iconst (v := 1) X dX10_readOne_66 (by decide) ?_
        refine v_iadd X dX10_readOne_67 ?_
        refine t_putI X hd rfl fp_X10_456 dX10_readOne_68 (fun ms hd => ?_)
        refine v_aload_n X dX10_readOne_71 2 0 rfl rfl ?_
        refine t_callV X hK hd (ct_X10_go _ am) (lw_V q1876 q1878 qs39 q120 q1879) ⟨rfl, dn_X10_go⟩ rfl ⟨by omega, by omega⟩ rfl (Nat.le_of_ble_eq_true rfl) dX10_readOne_72 (fun v8 ms hd => ?_)
        show V K 4 (mkM am hn ms) 75 [(2, .int v2), (1, .int (b2i v1)), (0, .ref am)] []
        refine v_iconst (v := 1) X dX10_readOne_75 (by decide) ?_
        refine v_istore_n (lv2 := [(3, .int 1), (2, .int v2), (1, .int (b2i v1)), (0, .ref am)]) X dX10_readOne_76 3 rfl (by decide) rfl ?_
        refine v_iload_n X dX10_readOne_77 2 1 rfl rfl ?_
        obtain ⟨u9, m1, hd, hd2⟩ := TM.bind_some hd
        have KJ : V K 4 (mkM am hn m1) 176 [(0, .ref am), (3, .int (b2i u9))] [] := by
          clear hd
          have hd := hd2
          refine v_aload_n X dX10_readOne_176 0 0 rfl rfl ?_
          refine v_dup X dX10_readOne_177 rfl ?_
          refine t_getI X hd rfl fl_X10_456 dX10_readOne_178 (fun v10 hd => ?_)
          refine v_iconst (v := 1) X dX10_readOne_181 (by decide) ?_
          refine v_isub X dX10_readOne_182 ?_
          refine t_putI X hd rfl fp_X10_456 dX10_readOne_183 (fun ms hd => ?_)
          refine v_iload_n X dX10_readOne_186 1 3 rfl rfl ?_
          exact t_zret X hK hd rfl ho dX10_readOne_187
        clear hd2
        refine v_ifZ_eq (tgt := 89) X dX10_readOne_78 (by decide) (fun q => ?_) (fun q => ?_)
        · have hd := Tcnd_f q hd
          refine v_iload_n X dX10_readOne_89 1 2 rfl rfl ?_
          refine v_bipush (v := 19) X dX10_readOne_90 (by decide) ?_
          refine v_icmp_ne (tgt := 103) X dX10_readOne_92 (by decide) (fun q => ?_) (fun q => ?_)
          · have hd := Tite_f q hd
            refine v_iload_n X dX10_readOne_103 1 2 rfl rfl ?_
            refine v_bipush (v := 10) X dX10_readOne_104 (by decide) ?_
            refine v_icmp_eq (tgt := 121) X dX10_readOne_106 (by decide) (fun q => ?_) (fun q => ?_)
            · have hd := Tite_t q hd
              refine v_aload_n X dX10_readOne_121 3 0 rfl rfl ?_
              refine v_aload_n X dX10_readOne_122 3 0 rfl rfl ?_
              refine v_iload_n X dX10_readOne_123 1 2 rfl rfl ?_
              refine v_bipush (v := 10) X dX10_readOne_124 (by decide) ?_
              obtain ⟨u11, m1, hd, hd2⟩ := TM.bind_some hd
              have KJ : V K 4 (mkM am hn m1) 145 [(0, .ref am), (3, .int 1)] [.int u11, .ref am, .ref am] := by
                clear hd
                have hd := hd2
                refine v_iconst (v := 0) X dX10_readOne_145 (by decide) ?_
                refine v_iconst (v := 0) X dX10_readOne_146 (by decide) ?_
                refine v_iconst (v := 0) X dX10_readOne_147 (by decide) ?_
                refine t_callV X hK hd (ct_X10_lays _ am u11 0 0 0) (lw_V q2304 q2306 qs103 q120 q2307) ⟨rfl, dn_X10_lays⟩ rfl ⟨by omega, by omega⟩ rfl (Nat.le_of_ble_eq_true rfl) dX10_readOne_148 (fun v12 ms hd => ?_)
                show V K 4 (mkM am hn ms) 151 [(0, .ref am), (3, .int 1)] [.int v12, .ref am]
                refine t_putI X hd rfl fp_X10_441 dX10_readOne_151 (fun ms hd => ?_)
                refine v_goto (tgt := 176) X dX10_readOne_154 (by decide) ?_
                exact v_loc [0, 1] rfl (t_at (P := fun (u9 : Bool) m => V K 4 (mkM am hn m) 176 [(0, .ref am), (3, .int (b2i u9))] []) hd KJ)
              clear hd2
              refine v_icmp_ne (tgt := 133) X dX10_readOne_126 (by decide) (fun q => ?_) (fun q => ?_)
              · have hd := Tite_f q hd
                refine v_iload_n X dX10_readOne_133 1 2 rfl rfl ?_
                refine v_bipush (v := 20) X dX10_readOne_134 (by decide) ?_
                refine v_icmp_ne (tgt := 143) X dX10_readOne_136 (by decide) (fun q => ?_) (fun q => ?_)
                · have hd := Tite_f q hd
                  refine v_bipush (v := 6) X dX10_readOne_143 (by decide) ?_
                  exact v_loc [3, 0] rfl (t_at (P := fun (u11 : Int32) m => V K 4 (mkM am hn m) 145 [(0, .ref am), (3, .int 1)] [.int u11, .ref am, .ref am]) hd KJ)
                · have hd := Tite_t q hd
                  refine v_iconst (v := 5) X dX10_readOne_139 (by decide) ?_
                  refine v_goto (tgt := 145) X dX10_readOne_140 (by decide) ?_
                  exact v_loc [3, 0] rfl (t_at (P := fun (u11 : Int32) m => V K 4 (mkM am hn m) 145 [(0, .ref am), (3, .int 1)] [.int u11, .ref am, .ref am]) hd KJ)
              · have hd := Tite_t q hd
                refine v_iconst (v := 4) X dX10_readOne_129 (by decide) ?_
                refine v_goto (tgt := 145) X dX10_readOne_130 (by decide) ?_
                exact v_loc [3, 0] rfl (t_at (P := fun (u11 : Int32) m => V K 4 (mkM am hn m) 145 [(0, .ref am), (3, .int 1)] [.int u11, .ref am, .ref am]) hd KJ)
            · have hd := Tite_f q hd
              refine v_iload_n X dX10_readOne_109 1 2 rfl rfl ?_
              refine v_bipush (v := 20) X dX10_readOne_110 (by decide) ?_
              refine v_icmp_eq (tgt := 121) X dX10_readOne_112 (by decide) (fun q => ?_) (fun q => ?_)
              · have hd := Tite_t q hd
                refine v_aload_n X dX10_readOne_121 3 0 rfl rfl ?_
                refine v_aload_n X dX10_readOne_122 3 0 rfl rfl ?_
                refine v_iload_n X dX10_readOne_123 1 2 rfl rfl ?_
                refine v_bipush (v := 10) X dX10_readOne_124 (by decide) ?_
                obtain ⟨u13, m1, hd, hd2⟩ := TM.bind_some hd
                have KJ : V K 4 (mkM am hn m1) 145 [(0, .ref am), (3, .int 1)] [.int u13, .ref am, .ref am] := by
                  clear hd
                  have hd := hd2
                  refine v_iconst (v := 0) X dX10_readOne_145 (by decide) ?_
                  refine v_iconst (v := 0) X dX10_readOne_146 (by decide) ?_
                  refine v_iconst (v := 0) X dX10_readOne_147 (by decide) ?_
                  refine t_callV X hK hd (ct_X10_lays _ am u13 0 0 0) (lw_V q2304 q2306 qs103 q120 q2307) ⟨rfl, dn_X10_lays⟩ rfl ⟨by omega, by omega⟩ rfl (Nat.le_of_ble_eq_true rfl) dX10_readOne_148 (fun v14 ms hd => ?_)
                  show V K 4 (mkM am hn ms) 151 [(0, .ref am), (3, .int 1)] [.int v14, .ref am]
                  refine t_putI X hd rfl fp_X10_441 dX10_readOne_151 (fun ms hd => ?_)
                  refine v_goto (tgt := 176) X dX10_readOne_154 (by decide) ?_
                  exact v_loc [0, 1] rfl (t_at (P := fun (u9 : Bool) m => V K 4 (mkM am hn m) 176 [(0, .ref am), (3, .int (b2i u9))] []) hd KJ)
                clear hd2
                refine v_icmp_ne (tgt := 133) X dX10_readOne_126 (by decide) (fun q => ?_) (fun q => ?_)
                · have hd := Tite_f q hd
                  refine v_iload_n X dX10_readOne_133 1 2 rfl rfl ?_
                  refine v_bipush (v := 20) X dX10_readOne_134 (by decide) ?_
                  refine v_icmp_ne (tgt := 143) X dX10_readOne_136 (by decide) (fun q => ?_) (fun q => ?_)
                  · have hd := Tite_f q hd
                    refine v_bipush (v := 6) X dX10_readOne_143 (by decide) ?_
                    exact v_loc [3, 0] rfl (t_at (P := fun (u13 : Int32) m => V K 4 (mkM am hn m) 145 [(0, .ref am), (3, .int 1)] [.int u13, .ref am, .ref am]) hd KJ)
                  · have hd := Tite_t q hd
                    refine v_iconst (v := 5) X dX10_readOne_139 (by decide) ?_
                    refine v_goto (tgt := 145) X dX10_readOne_140 (by decide) ?_
                    exact v_loc [3, 0] rfl (t_at (P := fun (u13 : Int32) m => V K 4 (mkM am hn m) 145 [(0, .ref am), (3, .int 1)] [.int u13, .ref am, .ref am]) hd KJ)
                · have hd := Tite_t q hd
                  refine v_iconst (v := 4) X dX10_readOne_129 (by decide) ?_
                  refine v_goto (tgt := 145) X dX10_readOne_130 (by decide) ?_
                  exact v_loc [3, 0] rfl (t_at (P := fun (u13 : Int32) m => V K 4 (mkM am hn m) 145 [(0, .ref am), (3, .int 1)] [.int u13, .ref am, .ref am]) hd KJ)
              · have hd := Tite_f q hd
                refine v_iload_n X dX10_readOne_115 1 2 rfl rfl ?_
                refine v_bipush (v := 21) X dX10_readOne_116 (by decide) ?_
                refine v_icmp_ne (tgt := 157) X dX10_readOne_118 (by decide) (fun q => ?_) (fun q => ?_)
                · have hd := Tite_f q hd
                  refine v_iload_n X dX10_readOne_157 1 2 rfl rfl ?_
                  refine v_bipush (v := 22) X dX10_readOne_158 (by decide) ?_
                  obtain ⟨u15, m1, hd, hd2⟩ := TM.bind_some hd
                  have KJ : V K 4 (mkM am hn m1) 175 [(0, .ref am)] [.int (b2i u15)] := by
                    clear hd
                    have hd := hd2
                    refine v_istore_n (lv2 := [(3, .int (b2i u15)), (0, .ref am)]) X dX10_readOne_175 3 rfl (by decide) rfl ?_
                    exact v_loc [1, 0] rfl (t_at (P := fun (u9 : Bool) m => V K 4 (mkM am hn m) 176 [(0, .ref am), (3, .int (b2i u9))] []) hd KJ)
                  clear hd2
                  refine v_icmp_ne (tgt := 170) X dX10_readOne_160 (by decide) (fun q => ?_) (fun q => ?_)
                  · have hd := Tite_f q hd
                    refine v_aload_n X dX10_readOne_170 3 0 rfl rfl ?_
                    refine v_iload_n X dX10_readOne_171 1 2 rfl rfl ?_
                    refine t_callV X hK hd (ct_X10_readCompare _ am v2) (lw_V q2312 q2314 qs105 q120 q2315) ⟨rfl, dn_X10_readCompare⟩ rfl ⟨by omega, by omega⟩ rfl (Nat.le_of_ble_eq_true rfl) dX10_readOne_172 (fun v16 ms hd => ?_)
                    show V K 4 (mkM am hn ms) 175 [(3, .int 1), (2, .int v2), (1, .int (b2i v1)), (0, .ref am)] [.int (b2i v16)]
                    exact v_loc [3] rfl (t_at (P := fun (u15 : Bool) m => V K 4 (mkM am hn m) 175 [(0, .ref am)] [.int (b2i u15)]) hd KJ)
                  · have hd := Tite_t q hd
                    refine v_aload_n X dX10_readOne_163 3 0 rfl rfl ?_
                    refine t_callV X hK hd (ct_X10_readBites _ am) (lw_V q2308 q2310 qs104 q120 q2311) ⟨rfl, dn_X10_readBites⟩ rfl ⟨by omega, by omega⟩ rfl (Nat.le_of_ble_eq_true rfl) dX10_readOne_164 (fun v17 ms hd => ?_)
                    show V K 4 (mkM am hn ms) 167 [(3, .int 1), (2, .int v2), (1, .int (b2i v1)), (0, .ref am)] [.int (b2i v17)]
                    refine v_goto (tgt := 175) X dX10_readOne_167 (by decide) ?_
                    exact v_loc [3] rfl (t_at (P := fun (u15 : Bool) m => V K 4 (mkM am hn m) 175 [(0, .ref am)] [.int (b2i u15)]) hd KJ)
                · have hd := Tite_t q hd
                  refine v_aload_n X dX10_readOne_121 3 0 rfl rfl ?_
                  refine v_aload_n X dX10_readOne_122 3 0 rfl rfl ?_
                  refine v_iload_n X dX10_readOne_123 1 2 rfl rfl ?_
                  refine v_bipush (v := 10) X dX10_readOne_124 (by decide) ?_
                  obtain ⟨u18, m1, hd, hd2⟩ := TM.bind_some hd
                  have KJ : V K 4 (mkM am hn m1) 145 [(0, .ref am), (3, .int 1)] [.int u18, .ref am, .ref am] := by
                    clear hd
                    have hd := hd2
                    refine v_iconst (v := 0) X dX10_readOne_145 (by decide) ?_
                    refine v_iconst (v := 0) X dX10_readOne_146 (by decide) ?_
                    refine v_iconst (v := 0) X dX10_readOne_147 (by decide) ?_
                    refine t_callV X hK hd (ct_X10_lays _ am u18 0 0 0) (lw_V q2304 q2306 qs103 q120 q2307) ⟨rfl, dn_X10_lays⟩ rfl ⟨by omega, by omega⟩ rfl (Nat.le_of_ble_eq_true rfl) dX10_readOne_148 (fun v19 ms hd => ?_)
                    show V K 4 (mkM am hn ms) 151 [(0, .ref am), (3, .int 1)] [.int v19, .ref am]
                    refine t_putI X hd rfl fp_X10_441 dX10_readOne_151 (fun ms hd => ?_)
                    refine v_goto (tgt := 176) X dX10_readOne_154 (by decide) ?_
                    exact v_loc [0, 1] rfl (t_at (P := fun (u9 : Bool) m => V K 4 (mkM am hn m) 176 [(0, .ref am), (3, .int (b2i u9))] []) hd KJ)
                  clear hd2
                  refine v_icmp_ne (tgt := 133) X dX10_readOne_126 (by decide) (fun q => ?_) (fun q => ?_)
                  · have hd := Tite_f q hd
                    refine v_iload_n X dX10_readOne_133 1 2 rfl rfl ?_
                    refine v_bipush (v := 20) X dX10_readOne_134 (by decide) ?_
                    refine v_icmp_ne (tgt := 143) X dX10_readOne_136 (by decide) (fun q => ?_) (fun q => ?_)
                    · have hd := Tite_f q hd
                      refine v_bipush (v := 6) X dX10_readOne_143 (by decide) ?_
                      exact v_loc [3, 0] rfl (t_at (P := fun (u18 : Int32) m => V K 4 (mkM am hn m) 145 [(0, .ref am), (3, .int 1)] [.int u18, .ref am, .ref am]) hd KJ)
                    · have hd := Tite_t q hd
                      refine v_iconst (v := 5) X dX10_readOne_139 (by decide) ?_
                      refine v_goto (tgt := 145) X dX10_readOne_140 (by decide) ?_
                      exact v_loc [3, 0] rfl (t_at (P := fun (u18 : Int32) m => V K 4 (mkM am hn m) 145 [(0, .ref am), (3, .int 1)] [.int u18, .ref am, .ref am]) hd KJ)
                  · have hd := Tite_t q hd
                    refine v_iconst (v := 4) X dX10_readOne_129 (by decide) ?_
                    refine v_goto (tgt := 145) X dX10_readOne_130 (by decide) ?_
                    exact v_loc [3, 0] rfl (t_at (P := fun (u18 : Int32) m => V K 4 (mkM am hn m) 145 [(0, .ref am), (3, .int 1)] [.int u18, .ref am, .ref am]) hd KJ)
          · have hd := Tite_t q hd
            refine v_aload_n X dX10_readOne_95 3 0 rfl rfl ?_
            refine t_callV X hK hd (ih3) (lw_V q2300 q2302 qs102 q120 q2303) ⟨rfl, dn_X10_readNot⟩ rfl ⟨by omega, by omega⟩ rfl (Nat.le_of_ble_eq_true rfl) dX10_readOne_96 (fun v20 ms hd => ?_)
            show V K 4 (mkM am hn ms) 99 [(3, .int 1), (2, .int v2), (1, .int (b2i v1)), (0, .ref am)] [.int (b2i v20)]
            refine v_istore_n (lv2 := [(3, .int (b2i v20)), (2, .int v2), (1, .int (b2i v1)), (0, .ref am)]) X dX10_readOne_99 3 rfl (by decide) rfl ?_
            refine v_goto (tgt := 176) X dX10_readOne_100 (by decide) ?_
            exact v_loc [3, 0] rfl (t_at (P := fun (u9 : Bool) m => V K 4 (mkM am hn m) 176 [(0, .ref am), (3, .int (b2i u9))] []) hd KJ)
        · have hd := Tcnd_t q hd
          refine v_aload_n X dX10_readOne_81 3 0 rfl rfl ?_
          refine t_callV X hK hd (ih4) (lw_V q2296 q2298 qs101 q120 q2299) ⟨rfl, dn_X10_readBracket⟩ rfl ⟨by omega, by omega⟩ rfl (Nat.le_of_ble_eq_true rfl) dX10_readOne_82 (fun v21 ms hd => ?_)
          show V K 4 (mkM am hn ms) 85 [(3, .int 1), (2, .int v2), (1, .int (b2i v1)), (0, .ref am)] [.int (b2i v21)]
          refine v_istore_n (lv2 := [(3, .int (b2i v21)), (2, .int v2), (1, .int (b2i v1)), (0, .ref am)]) X dX10_readOne_85 3 rfl (by decide) rfl ?_
          refine v_goto (tgt := 176) X dX10_readOne_86 (by decide) ?_
          exact v_loc [3, 0] rfl (t_at (P := fun (u9 : Bool) m => V K 4 (mkM am hn m) 176 [(0, .ref am), (3, .int (b2i u9))] []) hd KJ)
      · have hd := Tite_t q hd
        refine v_aload_n X dX10_readOne_45 2 0 rfl rfl ?_
        refine v_iconst (v := 4) X dX10_readOne_46 (by decide) ?_
        refine t_callV X hK hd (ct_X10_bad _ am 4) (lw_V q1913 q1915 qs44 q120 q1916) ⟨rfl, dn_X10_bad⟩ rfl ⟨by omega, by omega⟩ rfl (Nat.le_of_ble_eq_true rfl) dX10_readOne_47 (fun v22 ms hd => ?_)
        show V K 4 (mkM am hn ms) 50 [(2, .int v2), (1, .int (b2i v1)), (0, .ref am)] [.int (b2i v22)]
        exact t_zret X hK hd rfl ho dX10_readOne_50
  · have hd := Tcnd_f q hd
    refine v_iload_n X dX10_readOne_16 0 2 rfl rfl ?_
    refine v_iconst (v := (-1)) X dX10_readOne_17 (by decide) ?_
    refine v_icmp_ne (tgt := 27) X dX10_readOne_18 (by decide) (fun q => ?_) (fun q => ?_)
    · have hd := Tite_f q hd
      refine v_aload_n X dX10_readOne_27 2 0 rfl rfl ?_
      refine t_getI X hd rfl fl_X10_453 dX10_readOne_28 (fun v23 hd => ?_)
      refine v_bipush (v := 20) X dX10_readOne_31 (by decide) ?_
      refine v_icmp_eq (tgt := 45) X dX10_readOne_33 (by decide) (fun q => ?_) (fun q => ?_)
      · have hd := Tite_t q hd
        refine v_aload_n X dX10_readOne_45 2 0 rfl rfl ?_
        refine v_iconst (v := 4) X dX10_readOne_46 (by decide) ?_
        refine t_callV X hK hd (ct_X10_bad _ am 4) (lw_V q1913 q1915 qs44 q120 q1916) ⟨rfl, dn_X10_bad⟩ rfl ⟨by omega, by omega⟩ rfl (Nat.le_of_ble_eq_true rfl) dX10_readOne_47 (fun v24 ms hd => ?_)
        show V K 4 (mkM am hn ms) 50 [(2, .int v2), (1, .int (b2i v1)), (0, .ref am)] [.int (b2i v24)]
        exact t_zret X hK hd rfl ho dX10_readOne_50
      · have hd := Tite_f q hd
        refine v_aload_n X dX10_readOne_36 2 0 rfl rfl ?_
        refine t_getI X hd rfl fl_X10_456 dX10_readOne_37 (fun v25 hd => ?_)
        refine v_bipush (v := 8) X dX10_readOne_40 (by decide) ?_
        refine v_icmp_ne (tgt := 51) X dX10_readOne_42 (by decide) (fun q => ?_) (fun q => ?_)
        · have hd := Tite_f q hd
          refine v_aload_n X dX10_readOne_51 2 0 rfl rfl ?_
          refine v_dup X dX10_readOne_52 rfl ?_
          refine t_getI X hd rfl fl_X10_453 dX10_readOne_53 (fun v26 hd => ?_)
          refine v_iconst (v := 1) X dX10_readOne_56 (by decide) ?_
          refine v_iadd X dX10_readOne_57 ?_
          refine t_putI X hd rfl fp_X10_453 dX10_readOne_58 (fun ms hd => ?_)
          refine v_aload_n X dX10_readOne_61 2 0 rfl rfl ?_
          refine v_dup X dX10_readOne_62 rfl ?_
          refine t_getI X hd rfl fl_X10_456 dX10_readOne_63 (fun v27 hd => ?_)
          refine v_iconst (v := 1) X dX10_readOne_66 (by decide) ?_
          refine v_iadd X dX10_readOne_67 ?_
          refine t_putI X hd rfl fp_X10_456 dX10_readOne_68 (fun ms hd => ?_)
          refine v_aload_n X dX10_readOne_71 2 0 rfl rfl ?_
          refine t_callV X hK hd (ct_X10_go _ am) (lw_V q1876 q1878 qs39 q120 q1879) ⟨rfl, dn_X10_go⟩ rfl ⟨by omega, by omega⟩ rfl (Nat.le_of_ble_eq_true rfl) dX10_readOne_72 (fun v28 ms hd => ?_)
          show V K 4 (mkM am hn ms) 75 [(2, .int v2), (1, .int (b2i v1)), (0, .ref am)] []
          refine v_iconst (v := 1) X dX10_readOne_75 (by decide) ?_
          refine v_istore_n (lv2 := [(3, .int 1), (2, .int v2), (1, .int (b2i v1)), (0, .ref am)]) X dX10_readOne_76 3 rfl (by decide) rfl ?_
          refine v_iload_n X dX10_readOne_77 2 1 rfl rfl ?_
          obtain ⟨u29, m1, hd, hd2⟩ := TM.bind_some hd
          have KJ : V K 4 (mkM am hn m1) 176 [(0, .ref am), (3, .int (b2i u29))] [] := by
            clear hd
            have hd := hd2
            refine v_aload_n X dX10_readOne_176 0 0 rfl rfl ?_
            refine v_dup X dX10_readOne_177 rfl ?_
            refine t_getI X hd rfl fl_X10_456 dX10_readOne_178 (fun v30 hd => ?_)
            refine v_iconst (v := 1) X dX10_readOne_181 (by decide) ?_
            refine v_isub X dX10_readOne_182 ?_
            refine t_putI X hd rfl fp_X10_456 dX10_readOne_183 (fun ms hd => ?_)
            refine v_iload_n X dX10_readOne_186 1 3 rfl rfl ?_
            exact t_zret X hK hd rfl ho dX10_readOne_187
          clear hd2
          refine v_ifZ_eq (tgt := 89) X dX10_readOne_78 (by decide) (fun q => ?_) (fun q => ?_)
          · have hd := Tcnd_f q hd
            refine v_iload_n X dX10_readOne_89 1 2 rfl rfl ?_
            refine v_bipush (v := 19) X dX10_readOne_90 (by decide) ?_
            refine v_icmp_ne (tgt := 103) X dX10_readOne_92 (by decide) (fun q => ?_) (fun q => ?_)
            · have hd := Tite_f q hd
              refine v_iload_n X dX10_readOne_103 1 2 rfl rfl ?_
              refine v_bipush (v := 10) X dX10_readOne_104 (by decide) ?_
              refine v_icmp_eq (tgt := 121) X dX10_readOne_106 (by decide) (fun q => ?_) (fun q => ?_)
              · have hd := Tite_t q hd
                refine v_aload_n X dX10_readOne_121 3 0 rfl rfl ?_
                refine v_aload_n X dX10_readOne_122 3 0 rfl rfl ?_
                refine v_iload_n X dX10_readOne_123 1 2 rfl rfl ?_
                refine v_bipush (v := 10) X dX10_readOne_124 (by decide) ?_
                obtain ⟨u31, m1, hd, hd2⟩ := TM.bind_some hd
                have KJ : V K 4 (mkM am hn m1) 145 [(0, .ref am), (3, .int 1)] [.int u31, .ref am, .ref am] := by
                  clear hd
                  have hd := hd2
                  refine v_iconst (v := 0) X dX10_readOne_145 (by decide) ?_
                  refine v_iconst (v := 0) X dX10_readOne_146 (by decide) ?_
                  refine v_iconst (v := 0) X dX10_readOne_147 (by decide) ?_
                  refine t_callV X hK hd (ct_X10_lays _ am u31 0 0 0) (lw_V q2304 q2306 qs103 q120 q2307) ⟨rfl, dn_X10_lays⟩ rfl ⟨by omega, by omega⟩ rfl (Nat.le_of_ble_eq_true rfl) dX10_readOne_148 (fun v32 ms hd => ?_)
                  show V K 4 (mkM am hn ms) 151 [(0, .ref am), (3, .int 1)] [.int v32, .ref am]
                  refine t_putI X hd rfl fp_X10_441 dX10_readOne_151 (fun ms hd => ?_)
                  refine v_goto (tgt := 176) X dX10_readOne_154 (by decide) ?_
                  exact v_loc [0, 1] rfl (t_at (P := fun (u29 : Bool) m => V K 4 (mkM am hn m) 176 [(0, .ref am), (3, .int (b2i u29))] []) hd KJ)
                clear hd2
                refine v_icmp_ne (tgt := 133) X dX10_readOne_126 (by decide) (fun q => ?_) (fun q => ?_)
                · have hd := Tite_f q hd
                  refine v_iload_n X dX10_readOne_133 1 2 rfl rfl ?_
                  refine v_bipush (v := 20) X dX10_readOne_134 (by decide) ?_
                  refine v_icmp_ne (tgt := 143) X dX10_readOne_136 (by decide) (fun q => ?_) (fun q => ?_)
                  · have hd := Tite_f q hd
                    refine v_bipush (v := 6) X dX10_readOne_143 (by decide) ?_
                    exact v_loc [3, 0] rfl (t_at (P := fun (u31 : Int32) m => V K 4 (mkM am hn m) 145 [(0, .ref am), (3, .int 1)] [.int u31, .ref am, .ref am]) hd KJ)
                  · have hd := Tite_t q hd
                    refine v_iconst (v := 5) X dX10_readOne_139 (by decide) ?_
                    refine v_goto (tgt := 145) X dX10_readOne_140 (by decide) ?_
                    exact v_loc [3, 0] rfl (t_at (P := fun (u31 : Int32) m => V K 4 (mkM am hn m) 145 [(0, .ref am), (3, .int 1)] [.int u31, .ref am, .ref am]) hd KJ)
                · have hd := Tite_t q hd
                  refine v_iconst (v := 4) X dX10_readOne_129 (by decide) ?_
                  refine v_goto (tgt := 145) X dX10_readOne_130 (by decide) ?_
                  exact v_loc [3, 0] rfl (t_at (P := fun (u31 : Int32) m => V K 4 (mkM am hn m) 145 [(0, .ref am), (3, .int 1)] [.int u31, .ref am, .ref am]) hd KJ)
              · have hd := Tite_f q hd
                refine v_iload_n X dX10_readOne_109 1 2 rfl rfl ?_
                refine v_bipush (v := 20) X dX10_readOne_110 (by decide) ?_
                refine v_icmp_eq (tgt := 121) X dX10_readOne_112 (by decide) (fun q => ?_) (fun q => ?_)
                · have hd := Tite_t q hd
                  refine v_aload_n X dX10_readOne_121 3 0 rfl rfl ?_
                  refine v_aload_n X dX10_readOne_122 3 0 rfl rfl ?_
                  refine v_iload_n X dX10_readOne_123 1 2 rfl rfl ?_
                  refine v_bipush (v := 10) X dX10_readOne_124 (by decide) ?_
                  obtain ⟨u33, m1, hd, hd2⟩ := TM.bind_some hd
                  have KJ : V K 4 (mkM am hn m1) 145 [(0, .ref am), (3, .int 1)] [.int u33, .ref am, .ref am] := by
                    clear hd
                    have hd := hd2
                    refine v_iconst (v := 0) X dX10_readOne_145 (by decide) ?_
                    refine v_iconst (v := 0) X dX10_readOne_146 (by decide) ?_
                    refine v_iconst (v := 0) X dX10_readOne_147 (by decide) ?_
                    refine t_callV X hK hd (ct_X10_lays _ am u33 0 0 0) (lw_V q2304 q2306 qs103 q120 q2307) ⟨rfl, dn_X10_lays⟩ rfl ⟨by omega, by omega⟩ rfl (Nat.le_of_ble_eq_true rfl) dX10_readOne_148 (fun v34 ms hd => ?_)
                    show V K 4 (mkM am hn ms) 151 [(0, .ref am), (3, .int 1)] [.int v34, .ref am]
                    refine t_putI X hd rfl fp_X10_441 dX10_readOne_151 (fun ms hd => ?_)
                    refine v_goto (tgt := 176) X dX10_readOne_154 (by decide) ?_
                    exact v_loc [0, 1] rfl (t_at (P := fun (u29 : Bool) m => V K 4 (mkM am hn m) 176 [(0, .ref am), (3, .int (b2i u29))] []) hd KJ)
                  clear hd2
                  refine v_icmp_ne (tgt := 133) X dX10_readOne_126 (by decide) (fun q => ?_) (fun q => ?_)
                  · have hd := Tite_f q hd
                    refine v_iload_n X dX10_readOne_133 1 2 rfl rfl ?_
                    refine v_bipush (v := 20) X dX10_readOne_134 (by decide) ?_
                    refine v_icmp_ne (tgt := 143) X dX10_readOne_136 (by decide) (fun q => ?_) (fun q => ?_)
                    · have hd := Tite_f q hd
                      refine v_bipush (v := 6) X dX10_readOne_143 (by decide) ?_
                      exact v_loc [3, 0] rfl (t_at (P := fun (u33 : Int32) m => V K 4 (mkM am hn m) 145 [(0, .ref am), (3, .int 1)] [.int u33, .ref am, .ref am]) hd KJ)
                    · have hd := Tite_t q hd
                      refine v_iconst (v := 5) X dX10_readOne_139 (by decide) ?_
                      refine v_goto (tgt := 145) X dX10_readOne_140 (by decide) ?_
                      exact v_loc [3, 0] rfl (t_at (P := fun (u33 : Int32) m => V K 4 (mkM am hn m) 145 [(0, .ref am), (3, .int 1)] [.int u33, .ref am, .ref am]) hd KJ)
                  · have hd := Tite_t q hd
                    refine v_iconst (v := 4) X dX10_readOne_129 (by decide) ?_
                    refine v_goto (tgt := 145) X dX10_readOne_130 (by decide) ?_
                    exact v_loc [3, 0] rfl (t_at (P := fun (u33 : Int32) m => V K 4 (mkM am hn m) 145 [(0, .ref am), (3, .int 1)] [.int u33, .ref am, .ref am]) hd KJ)
                · have hd := Tite_f q hd
                  refine v_iload_n X dX10_readOne_115 1 2 rfl rfl ?_
                  refine v_bipush (v := 21) X dX10_readOne_116 (by decide) ?_
                  refine v_icmp_ne (tgt := 157) X dX10_readOne_118 (by decide) (fun q => ?_) (fun q => ?_)
                  · have hd := Tite_f q hd
                    refine v_iload_n X dX10_readOne_157 1 2 rfl rfl ?_
                    refine v_bipush (v := 22) X dX10_readOne_158 (by decide) ?_
                    obtain ⟨u35, m1, hd, hd2⟩ := TM.bind_some hd
                    have KJ : V K 4 (mkM am hn m1) 175 [(0, .ref am)] [.int (b2i u35)] := by
                      clear hd
                      have hd := hd2
                      refine v_istore_n (lv2 := [(3, .int (b2i u35)), (0, .ref am)]) X dX10_readOne_175 3 rfl (by decide) rfl ?_
                      exact v_loc [1, 0] rfl (t_at (P := fun (u29 : Bool) m => V K 4 (mkM am hn m) 176 [(0, .ref am), (3, .int (b2i u29))] []) hd KJ)
                    clear hd2
                    refine v_icmp_ne (tgt := 170) X dX10_readOne_160 (by decide) (fun q => ?_) (fun q => ?_)
                    · have hd := Tite_f q hd
                      refine v_aload_n X dX10_readOne_170 3 0 rfl rfl ?_
                      refine v_iload_n X dX10_readOne_171 1 2 rfl rfl ?_
                      refine t_callV X hK hd (ct_X10_readCompare _ am v2) (lw_V q2312 q2314 qs105 q120 q2315) ⟨rfl, dn_X10_readCompare⟩ rfl ⟨by omega, by omega⟩ rfl (Nat.le_of_ble_eq_true rfl) dX10_readOne_172 (fun v36 ms hd => ?_)
                      show V K 4 (mkM am hn ms) 175 [(3, .int 1), (2, .int v2), (1, .int (b2i v1)), (0, .ref am)] [.int (b2i v36)]
                      exact v_loc [3] rfl (t_at (P := fun (u35 : Bool) m => V K 4 (mkM am hn m) 175 [(0, .ref am)] [.int (b2i u35)]) hd KJ)
                    · have hd := Tite_t q hd
                      refine v_aload_n X dX10_readOne_163 3 0 rfl rfl ?_
                      refine t_callV X hK hd (ct_X10_readBites _ am) (lw_V q2308 q2310 qs104 q120 q2311) ⟨rfl, dn_X10_readBites⟩ rfl ⟨by omega, by omega⟩ rfl (Nat.le_of_ble_eq_true rfl) dX10_readOne_164 (fun v37 ms hd => ?_)
                      show V K 4 (mkM am hn ms) 167 [(3, .int 1), (2, .int v2), (1, .int (b2i v1)), (0, .ref am)] [.int (b2i v37)]
                      refine v_goto (tgt := 175) X dX10_readOne_167 (by decide) ?_
                      exact v_loc [3] rfl (t_at (P := fun (u35 : Bool) m => V K 4 (mkM am hn m) 175 [(0, .ref am)] [.int (b2i u35)]) hd KJ)
                  · have hd := Tite_t q hd
                    refine v_aload_n X dX10_readOne_121 3 0 rfl rfl ?_
                    refine v_aload_n X dX10_readOne_122 3 0 rfl rfl ?_
                    refine v_iload_n X dX10_readOne_123 1 2 rfl rfl ?_
                    refine v_bipush (v := 10) X dX10_readOne_124 (by decide) ?_
                    obtain ⟨u38, m1, hd, hd2⟩ := TM.bind_some hd
                    have KJ : V K 4 (mkM am hn m1) 145 [(0, .ref am), (3, .int 1)] [.int u38, .ref am, .ref am] := by
                      clear hd
                      have hd := hd2
                      refine v_iconst (v := 0) X dX10_readOne_145 (by decide) ?_
                      refine v_iconst (v := 0) X dX10_readOne_146 (by decide) ?_
                      refine v_iconst (v := 0) X dX10_readOne_147 (by decide) ?_
                      refine t_callV X hK hd (ct_X10_lays _ am u38 0 0 0) (lw_V q2304 q2306 qs103 q120 q2307) ⟨rfl, dn_X10_lays⟩ rfl ⟨by omega, by omega⟩ rfl (Nat.le_of_ble_eq_true rfl) dX10_readOne_148 (fun v39 ms hd => ?_)
                      show V K 4 (mkM am hn ms) 151 [(0, .ref am), (3, .int 1)] [.int v39, .ref am]
                      refine t_putI X hd rfl fp_X10_441 dX10_readOne_151 (fun ms hd => ?_)
                      refine v_goto (tgt := 176) X dX10_readOne_154 (by decide) ?_
                      exact v_loc [0, 1] rfl (t_at (P := fun (u29 : Bool) m => V K 4 (mkM am hn m) 176 [(0, .ref am), (3, .int (b2i u29))] []) hd KJ)
                    clear hd2
                    refine v_icmp_ne (tgt := 133) X dX10_readOne_126 (by decide) (fun q => ?_) (fun q => ?_)
                    · have hd := Tite_f q hd
                      refine v_iload_n X dX10_readOne_133 1 2 rfl rfl ?_
                      refine v_bipush (v := 20) X dX10_readOne_134 (by decide) ?_
                      refine v_icmp_ne (tgt := 143) X dX10_readOne_136 (by decide) (fun q => ?_) (fun q => ?_)
                      · have hd := Tite_f q hd
                        refine v_bipush (v := 6) X dX10_readOne_143 (by decide) ?_
                        exact v_loc [3, 0] rfl (t_at (P := fun (u38 : Int32) m => V K 4 (mkM am hn m) 145 [(0, .ref am), (3, .int 1)] [.int u38, .ref am, .ref am]) hd KJ)
                      · have hd := Tite_t q hd
                        refine v_iconst (v := 5) X dX10_readOne_139 (by decide) ?_
                        refine v_goto (tgt := 145) X dX10_readOne_140 (by decide) ?_
                        exact v_loc [3, 0] rfl (t_at (P := fun (u38 : Int32) m => V K 4 (mkM am hn m) 145 [(0, .ref am), (3, .int 1)] [.int u38, .ref am, .ref am]) hd KJ)
                    · have hd := Tite_t q hd
                      refine v_iconst (v := 4) X dX10_readOne_129 (by decide) ?_
                      refine v_goto (tgt := 145) X dX10_readOne_130 (by decide) ?_
                      exact v_loc [3, 0] rfl (t_at (P := fun (u38 : Int32) m => V K 4 (mkM am hn m) 145 [(0, .ref am), (3, .int 1)] [.int u38, .ref am, .ref am]) hd KJ)
            · have hd := Tite_t q hd
              refine v_aload_n X dX10_readOne_95 3 0 rfl rfl ?_
              refine t_callV X hK hd (ih3) (lw_V q2300 q2302 qs102 q120 q2303) ⟨rfl, dn_X10_readNot⟩ rfl ⟨by omega, by omega⟩ rfl (Nat.le_of_ble_eq_true rfl) dX10_readOne_96 (fun v40 ms hd => ?_)
              show V K 4 (mkM am hn ms) 99 [(3, .int 1), (2, .int v2), (1, .int (b2i v1)), (0, .ref am)] [.int (b2i v40)]
              refine v_istore_n (lv2 := [(3, .int (b2i v40)), (2, .int v2), (1, .int (b2i v1)), (0, .ref am)]) X dX10_readOne_99 3 rfl (by decide) rfl ?_
              refine v_goto (tgt := 176) X dX10_readOne_100 (by decide) ?_
              exact v_loc [3, 0] rfl (t_at (P := fun (u29 : Bool) m => V K 4 (mkM am hn m) 176 [(0, .ref am), (3, .int (b2i u29))] []) hd KJ)
          · have hd := Tcnd_t q hd
            refine v_aload_n X dX10_readOne_81 3 0 rfl rfl ?_
            refine t_callV X hK hd (ih4) (lw_V q2296 q2298 qs101 q120 q2299) ⟨rfl, dn_X10_readBracket⟩ rfl ⟨by omega, by omega⟩ rfl (Nat.le_of_ble_eq_true rfl) dX10_readOne_82 (fun v41 ms hd => ?_)
            show V K 4 (mkM am hn ms) 85 [(3, .int 1), (2, .int v2), (1, .int (b2i v1)), (0, .ref am)] [.int (b2i v41)]
            refine v_istore_n (lv2 := [(3, .int (b2i v41)), (2, .int v2), (1, .int (b2i v1)), (0, .ref am)]) X dX10_readOne_85 3 rfl (by decide) rfl ?_
            refine v_goto (tgt := 176) X dX10_readOne_86 (by decide) ?_
            exact v_loc [3, 0] rfl (t_at (P := fun (u29 : Bool) m => V K 4 (mkM am hn m) 176 [(0, .ref am), (3, .int (b2i u29))] []) hd KJ)
        · have hd := Tite_t q hd
          refine v_aload_n X dX10_readOne_45 2 0 rfl rfl ?_
          refine v_iconst (v := 4) X dX10_readOne_46 (by decide) ?_
          refine t_callV X hK hd (ct_X10_bad _ am 4) (lw_V q1913 q1915 qs44 q120 q1916) ⟨rfl, dn_X10_bad⟩ rfl ⟨by omega, by omega⟩ rfl (Nat.le_of_ble_eq_true rfl) dX10_readOne_47 (fun v42 ms hd => ?_)
          show V K 4 (mkM am hn ms) 50 [(2, .int v2), (1, .int (b2i v1)), (0, .ref am)] [.int (b2i v42)]
          exact t_zret X hK hd rfl ho dX10_readOne_50
    · have hd := Tite_t q hd
      refine v_aload_n X dX10_readOne_21 2 0 rfl rfl ?_
      refine v_iconst (v := 1) X dX10_readOne_22 (by decide) ?_
      refine t_callV X hK hd (ct_X10_bad _ am 1) (lw_V q1913 q1915 qs44 q120 q1916) ⟨rfl, dn_X10_bad⟩ rfl ⟨by omega, by omega⟩ rfl (Nat.le_of_ble_eq_true rfl) dX10_readOne_23 (fun v43 ms hd => ?_)
      show V K 4 (mkM am hn ms) 26 [(2, .int v2), (1, .int (b2i v1)), (0, .ref am)] [.int (b2i v43)]
      exact t_zret X hK hd rfl ho dX10_readOne_26
set_option maxHeartbeats 4000000 in
theorem st_X10_readNot (G : gG) (am n : Nat) (ih2 : gCtM G am yX10_readOne cX10_readOne 4 (some .boolean) (4 + n) (89 + n * 23) [.ref am] (N_X10_read n 2) (fun x : Bool => some (.int (b2i x)))) : gCtM G am yX10_readNot cX10_readNot 1 (some .boolean) (4 + (n + 1)) (89 + (n + 1) * 23) [.ref am] (B_X10_readNot (N_X10_read n)) (fun x : Bool => some (.int (b2i x))) := by
  refine gCtM.of (by decide) (Nat.le_of_ble_eq_true rfl) (fun K hn ms ms' r hG X hK hd ho => ?_)
  subst hG
  have X : gX K cX10_readNot 1 "BitingDoorsModel" "readNot" (some .boolean) (4 + (n + 1)) (89 + (n + 1) * 23) := X
  show V K 1 (mkM am hn ms) 0 [(0, .ref am)] []
  unfold B_X10_readNot at hd
  refine v_aload_n X dX10_readNot_0 0 0 rfl rfl ?_
  refine t_callV X hK hd (ih2) (lw_V q2288 q2290 qs99 q120 q2291) ⟨rfl, dn_X10_readOne⟩ rfl ⟨by omega, by omega⟩ rfl (Nat.le_of_ble_eq_true rfl) dX10_readNot_1 (fun v1 ms hd => ?_)
  show V K 1 (mkM am hn ms) 4 [(0, .ref am)] [.int (b2i v1)]
  refine v_ifZ_ne (tgt := 9) X dX10_readNot_4 (by decide) (fun q => ?_) (fun q => ?_)
  · have hd := Tcnd_t q hd
    refine v_aload_n X dX10_readNot_9 0 0 rfl rfl ?_
    refine v_aload_n X dX10_readNot_10 0 0 rfl rfl ?_
    refine v_iconst (v := 1) X dX10_readNot_11 (by decide) ?_
    refine v_aload_n X dX10_readNot_12 0 0 rfl rfl ?_
    refine t_getI X hd rfl fl_X10_441 dX10_readNot_13 (fun v2 hd => ?_)
    refine v_iconst (v := 0) X dX10_readNot_16 (by decide) ?_
    refine v_iconst (v := 0) X dX10_readNot_17 (by decide) ?_
    refine t_callV X hK hd (ct_X10_lays _ am 1 v2 0 0) (lw_V q2304 q2306 qs103 q120 q2307) ⟨rfl, dn_X10_lays⟩ rfl ⟨by omega, by omega⟩ rfl (Nat.le_of_ble_eq_true rfl) dX10_readNot_18 (fun v3 ms hd => ?_)
    show V K 1 (mkM am hn ms) 21 [(0, .ref am)] [.int v3, .ref am]
    refine t_putI X hd rfl fp_X10_441 dX10_readNot_21 (fun ms hd => ?_)
    refine v_iconst (v := 1) X dX10_readNot_24 (by decide) ?_
    exact t_zret X hK hd rfl ho dX10_readNot_25
  · have hd := Tcnd_f q hd
    refine v_iconst (v := 0) X dX10_readNot_7 (by decide) ?_
    exact t_zret X hK hd rfl ho dX10_readNot_8
set_option maxHeartbeats 4000000 in
theorem st_X10_readBracket (G : gG) (am n : Nat) (ih0 : gCtM G am yX10_readOr cX10_readOr 2 (some .boolean) (4 + n) (89 + n * 23) [.ref am] (N_X10_read n 0) (fun x : Bool => some (.int (b2i x)))) : gCtM G am yX10_readBracket cX10_readBracket 1 (some .boolean) (4 + (n + 1)) (89 + (n + 1) * 23) [.ref am] (B_X10_readBracket (N_X10_read n)) (fun x : Bool => some (.int (b2i x))) := by
  refine gCtM.of (by decide) (Nat.le_of_ble_eq_true rfl) (fun K hn ms ms' r hG X hK hd ho => ?_)
  subst hG
  have X : gX K cX10_readBracket 1 "BitingDoorsModel" "readBracket" (some .boolean) (4 + (n + 1)) (89 + (n + 1) * 23) := X
  show V K 1 (mkM am hn ms) 0 [(0, .ref am)] []
  unfold B_X10_readBracket at hd
  refine v_aload_n X dX10_readBracket_0 0 0 rfl rfl ?_
  refine t_callV X hK hd (ih0) (lw_V q2280 q2282 qs97 q120 q2283) ⟨rfl, dn_X10_readOr⟩ rfl ⟨by omega, by omega⟩ rfl (Nat.le_of_ble_eq_true rfl) dX10_readBracket_1 (fun v1 ms hd => ?_)
  show V K 1 (mkM am hn ms) 4 [(0, .ref am)] [.int (b2i v1)]
  refine v_ifZ_ne (tgt := 9) X dX10_readBracket_4 (by decide) (fun q => ?_) (fun q => ?_)
  · have hd := Tcnd_t q hd
    refine v_aload_n X dX10_readBracket_9 0 0 rfl rfl ?_
    refine v_bipush (v := 41) X dX10_readBracket_10 (by decide) ?_
    refine t_callV X hK hd (ct_X10_isSign _ am 41) (lw_V q1962 q1964 qs54 q120 q1965) ⟨rfl, dn_X10_isSign⟩ rfl ⟨by omega, by omega⟩ rfl (Nat.le_of_ble_eq_true rfl) dX10_readBracket_12 (fun v2 ms hd => ?_)
    show V K 1 (mkM am hn ms) 15 [(0, .ref am)] [.int (b2i v2)]
    refine v_ifZ_ne (tgt := 24) X dX10_readBracket_15 (by decide) (fun q => ?_) (fun q => ?_)
    · have hd := Tcnd_t q hd
      refine v_aload_n X dX10_readBracket_24 0 0 rfl rfl ?_
      refine t_callV X hK hd (ct_X10_go _ am) (lw_V q1876 q1878 qs39 q120 q1879) ⟨rfl, dn_X10_go⟩ rfl ⟨by omega, by omega⟩ rfl (Nat.le_of_ble_eq_true rfl) dX10_readBracket_25 (fun v3 ms hd => ?_)
      show V K 1 (mkM am hn ms) 28 [(0, .ref am)] []
      refine v_iconst (v := 1) X dX10_readBracket_28 (by decide) ?_
      exact t_zret X hK hd rfl ho dX10_readBracket_29
    · have hd := Tcnd_f q hd
      refine v_aload_n X dX10_readBracket_18 0 0 rfl rfl ?_
      refine v_iconst (v := 1) X dX10_readBracket_19 (by decide) ?_
      refine t_callV X hK hd (ct_X10_bad _ am 1) (lw_V q1913 q1915 qs44 q120 q1916) ⟨rfl, dn_X10_bad⟩ rfl ⟨by omega, by omega⟩ rfl (Nat.le_of_ble_eq_true rfl) dX10_readBracket_20 (fun v4 ms hd => ?_)
      show V K 1 (mkM am hn ms) 23 [(0, .ref am)] [.int (b2i v4)]
      exact t_zret X hK hd rfl ho dX10_readBracket_23
  · have hd := Tcnd_f q hd
    refine v_iconst (v := 0) X dX10_readBracket_7 (by decide) ?_
    exact t_zret X hK hd rfl ho dX10_readBracket_8
theorem ct_X10_read (G : gG) (am n : Nat) : gCtM G am yX10_readOr cX10_readOr 2 (some .boolean) (4 + n) (89 + n * 23) [.ref am] (N_X10_read n 0) (fun x : Bool => some (.int (b2i x))) ∧ gCtM G am yX10_readAnd cX10_readAnd 2 (some .boolean) (4 + n) (89 + n * 23) [.ref am] (N_X10_read n 1) (fun x : Bool => some (.int (b2i x))) ∧ gCtM G am yX10_readOne cX10_readOne 4 (some .boolean) (4 + n) (89 + n * 23) [.ref am] (N_X10_read n 2) (fun x : Bool => some (.int (b2i x))) ∧ gCtM G am yX10_readNot cX10_readNot 1 (some .boolean) (4 + n) (89 + n * 23) [.ref am] (N_X10_read n 3) (fun x : Bool => some (.int (b2i x))) ∧ gCtM G am yX10_readBracket cX10_readBracket 1 (some .boolean) (4 + n) (89 + n * 23) [.ref am] (N_X10_read n 4) (fun x : Bool => some (.int (b2i x))) := by
  induction n with
  | zero =>
    refine ⟨?_, ?_, ?_, ?_, ?_⟩ <;> (intro hn ms r m2 hf; cases hf)
  | succ n ih =>
    obtain ⟨ih0, ih1, ih2, ih3, ih4⟩ := ih
    exact ⟨st_X10_readOr G am n ih1, st_X10_readAnd G am n ih2, st_X10_readOne G am n ih3 ih4, st_X10_readNot G am n ih2, st_X10_readBracket G am n ih0⟩
noncomputable def M_X10_readOr : TM Bool := N_X10_read 64 0
theorem ct_X10_readOr (G : gG) (am : Nat) : gCtM G am yX10_readOr cX10_readOr 2 (some .boolean) 68 1561 [.ref am] M_X10_readOr (fun x : Bool => some (.int (b2i x))) := (ct_X10_read G am 64).1
