set_option maxRecDepth 100000
def dkwX6_is_2 : List UInt8 := [182, 0, 72, 159, 0, 5, 3, 172, 132, 2, 1, 167, 255, 221, 4, 172]
abbrev dktX6_is_2 : List UInt8 := dkwX6_is_2 ++ []
def dkwX6_is_1 : List UInt8 := [42, 180, 0, 64, 162, 0, 33, 42, 180, 0, 3, 180, 0, 28, 42, 180, 0, 40, 28, 96, 51, 43, 28]
abbrev dktX6_is_1 : List UInt8 := dkwX6_is_1 ++ dktX6_is_2
def dkwX6_is_0 : List UInt8 := [42, 180, 0, 43, 4, 160, 0, 14, 42, 180, 0, 64, 43, 182, 0, 67, 159, 0, 5, 3, 172, 3, 61, 28]
abbrev dktX6_is_0 : List UInt8 := dkwX6_is_0 ++ dktX6_is_1
theorem dksX6_is_0 : cX6_is.data.toList.drop 0 = dktX6_is_0 := by decide +kernel
theorem dksX6_is_1 : cX6_is.data.toList.drop 24 = dktX6_is_1 := dk_seg dksX6_is_0 24 rfl rfl
theorem dksX6_is_2 : cX6_is.data.toList.drop 47 = dktX6_is_2 := dk_seg dksX6_is_1 23 rfl rfl
theorem dX6_is_0 : decode cX6_is 0 = .ok (.aload_n 0, 1) := dk_42 (dk_at dksX6_is_0 0 rfl rfl)
theorem dX6_is_1 : decode cX6_is 1 = .ok (.getfield 43, 3) := dk_180 0 43 (dk_at dksX6_is_0 1 rfl rfl)
theorem dX6_is_4 : decode cX6_is 4 = .ok (.iconst 1, 1) := dk_4 (dk_at dksX6_is_0 4 rfl rfl)
theorem dX6_is_5 : decode cX6_is 5 = .ok (.if_icmp .ne 14, 3) := dk_160 0 14 (dk_at dksX6_is_0 5 rfl rfl)
theorem dX6_is_8 : decode cX6_is 8 = .ok (.aload_n 0, 1) := dk_42 (dk_at dksX6_is_0 8 rfl rfl)
theorem dX6_is_9 : decode cX6_is 9 = .ok (.getfield 64, 3) := dk_180 0 64 (dk_at dksX6_is_0 9 rfl rfl)
theorem dX6_is_12 : decode cX6_is 12 = .ok (.aload_n 1, 1) := dk_43 (dk_at dksX6_is_0 12 rfl rfl)
theorem dX6_is_13 : decode cX6_is 13 = .ok (.invokevirtual 67, 3) := dk_182 0 67 (dk_at dksX6_is_0 13 rfl rfl)
theorem dX6_is_16 : decode cX6_is 16 = .ok (.if_icmp .eq 5, 3) := dk_159 0 5 (dk_at dksX6_is_0 16 rfl rfl)
theorem dX6_is_19 : decode cX6_is 19 = .ok (.iconst 0, 1) := dk_3 (dk_at dksX6_is_0 19 rfl rfl)
theorem dX6_is_20 : decode cX6_is 20 = .ok (.ireturn, 1) := dk_172 (dk_at dksX6_is_0 20 rfl rfl)
theorem dX6_is_21 : decode cX6_is 21 = .ok (.iconst 0, 1) := dk_3 (dk_at dksX6_is_0 21 rfl rfl)
theorem dX6_is_22 : decode cX6_is 22 = .ok (.istore_n 2, 1) := dk_61 (dk_at dksX6_is_0 22 rfl rfl)
theorem dX6_is_23 : decode cX6_is 23 = .ok (.iload_n 2, 1) := dk_28 (dk_at dksX6_is_0 23 rfl rfl)
theorem dX6_is_24 : decode cX6_is 24 = .ok (.aload_n 0, 1) := dk_42 (dk_at dksX6_is_1 0 rfl rfl)
theorem dX6_is_25 : decode cX6_is 25 = .ok (.getfield 64, 3) := dk_180 0 64 (dk_at dksX6_is_1 1 rfl rfl)
theorem dX6_is_28 : decode cX6_is 28 = .ok (.if_icmp .ge 33, 3) := dk_162 0 33 (dk_at dksX6_is_1 4 rfl rfl)
theorem dX6_is_31 : decode cX6_is 31 = .ok (.aload_n 0, 1) := dk_42 (dk_at dksX6_is_1 7 rfl rfl)
theorem dX6_is_32 : decode cX6_is 32 = .ok (.getfield 3, 3) := dk_180 0 3 (dk_at dksX6_is_1 8 rfl rfl)
theorem dX6_is_35 : decode cX6_is 35 = .ok (.getfield 28, 3) := dk_180 0 28 (dk_at dksX6_is_1 11 rfl rfl)
theorem dX6_is_38 : decode cX6_is 38 = .ok (.aload_n 0, 1) := dk_42 (dk_at dksX6_is_1 14 rfl rfl)
theorem dX6_is_39 : decode cX6_is 39 = .ok (.getfield 40, 3) := dk_180 0 40 (dk_at dksX6_is_1 15 rfl rfl)
theorem dX6_is_42 : decode cX6_is 42 = .ok (.iload_n 2, 1) := dk_28 (dk_at dksX6_is_1 18 rfl rfl)
theorem dX6_is_43 : decode cX6_is 43 = .ok (.iadd, 1) := dk_96 (dk_at dksX6_is_1 19 rfl rfl)
theorem dX6_is_44 : decode cX6_is 44 = .ok (.baload, 1) := dk_51 (dk_at dksX6_is_1 20 rfl rfl)
theorem dX6_is_45 : decode cX6_is 45 = .ok (.aload_n 1, 1) := dk_43 (dk_at dksX6_is_1 21 rfl rfl)
theorem dX6_is_46 : decode cX6_is 46 = .ok (.iload_n 2, 1) := dk_28 (dk_at dksX6_is_1 22 rfl rfl)
theorem dX6_is_47 : decode cX6_is 47 = .ok (.invokevirtual 72, 3) := dk_182 0 72 (dk_at dksX6_is_2 0 rfl rfl)
theorem dX6_is_50 : decode cX6_is 50 = .ok (.if_icmp .eq 5, 3) := dk_159 0 5 (dk_at dksX6_is_2 3 rfl rfl)
theorem dX6_is_53 : decode cX6_is 53 = .ok (.iconst 0, 1) := dk_3 (dk_at dksX6_is_2 6 rfl rfl)
theorem dX6_is_54 : decode cX6_is 54 = .ok (.ireturn, 1) := dk_172 (dk_at dksX6_is_2 7 rfl rfl)
theorem dX6_is_55 : decode cX6_is 55 = .ok (.iinc 2 1, 3) := dk_132 2 1 (dk_at dksX6_is_2 8 rfl rfl)
theorem dX6_is_58 : decode cX6_is 58 = .ok (.goto (-35), 3) := dk_167 255 221 (dk_at dksX6_is_2 11 rfl rfl)
theorem dX6_is_61 : decode cX6_is 61 = .ok (.iconst 1, 1) := dk_4 (dk_at dksX6_is_2 14 rfl rfl)
theorem dX6_is_62 : decode cX6_is 62 = .ok (.ireturn, 1) := dk_172 (dk_at dksX6_is_2 15 rfl rfl)
theorem dn_X6_is : yX6_is.cls ≠ "java/lang/invoke/MethodHandle" ∧ yX6_is.cls ≠ "java/lang/invoke/VarHandle" ∧ (parseMethodDescriptor yX6_is.desc).map (fun d => d.parameters.length) = some 1 := by decide +kernel
noncomputable def M_X6_is (t : Nat) (p1 : Nat) : Mo Bool := Mo.bind (chk [5, 6, 7] t) (fun _ => Mo.bind (gI [5, 6, 7] t 3) (fun v1 => if v1 = 1 then Mo.bind (gI [5, 6, 7] t 5) (fun v2 => Mo.bind (strLen p1) (fun v3 => if v2 = v3 then Mo.loop (S := Int32) (fun s4 => Mo.bind (gI [5, 6, 7] t 5) (fun v7 => if v7 ≤ s4 then Mo.pure (Sum.inr true) else Mo.bind (gR [5, 6, 7] t 7) (fun v8 => Mo.bind (gR [0] v8 0) (fun v9 => Mo.bind (gI [5, 6, 7] t 2) (fun v10 => Mo.bind (aldI 2 v9 (v10 + s4)) (fun v11 => Mo.bind (strAt p1 s4) (fun v12 => if v11 = v12 then Mo.lv (s4 + 1) (fun v13 => Mo.pure (Sum.inl v13)) else Mo.pure (Sum.inr false)))))))) 0 else Mo.pure false)) else Mo.pure false))
set_option maxHeartbeats 4000000 in
theorem ct_X6_is (G : gG) (t : Nat) (p1 : Nat) : gCt G yX6_is cX6_is 3 (some .boolean) 4 85 [.ref t, .ref (G.2.2.2.1 p1)] (M_X6_is t p1) (fun x : Bool => some (.int (b2i x))) := by
  refine gCt.of (by decide) (Nat.le_of_ble_eq_true rfl) (fun K r hG X hd ho => ?_)
  subst hG
  have X : gX K cX6_is 3 "BitingDoors$Reader" "is" (some .boolean) 4 85 := X
  have hle : gLe (kh1 K) (kh1 K) := gLe.rf
  show V K 3 (kh0 K) 0 [(0, .ref t), (1, .ref ((kG K).2.2.2.1 p1))] []
  generalize kh0 K = h at hd ⊢
  unfold M_X6_is at hd
  obtain ⟨-, hd⟩ := chk_some hd
  refine v_aload_n X dX6_is_0 0 0 rfl rfl ?_
  refine v_getI X hd fl_X6_43 dX6_is_1 (fun v1 hd => ?_)
  refine v_iconst (v := 1) X dX6_is_4 (by decide) ?_
  refine v_icmp_ne (tgt := 19) X dX6_is_5 (by decide) (fun q => ?_) (fun q => ?_)
  · have hd := ite_f q hd
    refine v_iconst (v := 0) X dX6_is_19 (by decide) ?_
    exact v_zret X hd rfl ho dX6_is_20
  · have hd := ite_t q hd
    refine v_aload_n X dX6_is_8 0 0 rfl rfl ?_
    refine v_getI X hd fl_X6_64 dX6_is_9 (fun v2 hd => ?_)
    refine v_aload_n X dX6_is_12 1 1 rfl rfl ?_
    refine v_strLen X hd hle q711 ⟨by decide, by decide⟩ (Nat.le_of_ble_eq_true rfl) dX6_is_13 (fun v3 h hd => ?_)
    refine v_icmp_eq (tgt := 21) X dX6_is_16 (by decide) (fun q => ?_) (fun q => ?_)
    · have hd := ite_t q hd
      refine v_iconst (v := 0) X dX6_is_21 (by decide) ?_
      refine v_istore_n (lv2 := [(2, .int 0), (0, .ref t), (1, .ref ((kG K).2.2.2.1 p1))]) X dX6_is_22 2 rfl (by decide) rfl ?_
      refine v_loc [1, 2, 0] rfl ?_
      refine loop_ind hd (fun (s4 : Int32) h => V K 3 h 23 [(0, .ref t), (1, .ref ((kG K).2.2.2.1 p1)), (2, .int s4)] []) (fun s4 h x h2 hd hle0 ih5 ho6 => ?_)
      have hle := hle0.tr hle
      refine v_iload_n X dX6_is_23 2 2 rfl rfl ?_
      refine v_aload_n X dX6_is_24 0 0 rfl rfl ?_
      refine v_getI X hd fl_X6_64 dX6_is_25 (fun v7 hd => ?_)
      refine v_icmp_ge (tgt := 61) X dX6_is_28 (by decide) (fun q => ?_) (fun q => ?_)
      · have hd := ite_t q hd
        refine v_iconst (v := 1) X dX6_is_61 (by decide) ?_
        have hd := lp_out hd ho6
        exact v_zret X hd rfl ho dX6_is_62
      · have hd := ite_f q hd
        refine v_aload_n X dX6_is_31 0 0 rfl rfl ?_
        refine v_getR X hd fl_X6_3 dX6_is_32 (fun v8 hd => ?_)
        refine v_getR X hd fl_X6_28 dX6_is_35 (fun v9 hd => ?_)
        refine v_aload_n X dX6_is_38 0 0 rfl rfl ?_
        refine v_getI X hd fl_X6_40 dX6_is_39 (fun v10 hd => ?_)
        refine v_iload_n X dX6_is_42 2 2 rfl rfl ?_
        refine v_iadd X dX6_is_43 ?_
        refine v_bald X hd dX6_is_44 (fun v11 hd => ?_)
        refine v_aload_n X dX6_is_45 1 1 rfl rfl ?_
        refine v_iload_n X dX6_is_46 2 2 rfl rfl ?_
        refine v_strAt X hd hle q721 ⟨by decide, by decide⟩ (Nat.le_of_ble_eq_true rfl) dX6_is_47 (fun v12 h hd => ?_)
        refine v_icmp_eq (tgt := 55) X dX6_is_50 (by decide) (fun q => ?_) (fun q => ?_)
        · have hd := ite_t q hd
          refine v_iincL (lv2 := fun v13 => [(2, .int v13), (0, .ref t), (1, .ref ((kG K).2.2.2.1 p1))]) X hd dX6_is_55 2 rfl (by decide : Int32.ofInt 1 = 1) (by decide) (fun v13 => rfl) (fun v13 hd => ?_)
          refine v_goto (tgt := 23) X dX6_is_58 (by decide) ?_
          exact v_loc [1, 2, 0] rfl (lp_in (P := fun (s4 : Int32) h => V K 3 h 23 [(0, .ref t), (1, .ref ((kG K).2.2.2.1 p1)), (2, .int s4)] []) hd ih5)
        · have hd := ite_f q hd
          refine v_iconst (v := 0) X dX6_is_53 (by decide) ?_
          have hd := lp_out hd ho6
          exact v_zret X hd rfl ho dX6_is_54
    · have hd := ite_f q hd
      refine v_iconst (v := 0) X dX6_is_19 (by decide) ?_
      exact v_zret X hd rfl ho dX6_is_20
def dkwX6_find_1 : List UInt8 := [167, 255, 235, 2, 172]
abbrev dktX6_find_1 : List UInt8 := dkwX6_find_1 ++ []
def dkwX6_find_0 : List UInt8 := [3, 61, 28, 43, 190, 162, 0, 21, 42, 43, 28, 50, 182, 0, 76, 153, 0, 5, 28, 172, 132, 2, 1]
abbrev dktX6_find_0 : List UInt8 := dkwX6_find_0 ++ dktX6_find_1
theorem dksX6_find_0 : cX6_find.data.toList.drop 0 = dktX6_find_0 := by decide +kernel
theorem dksX6_find_1 : cX6_find.data.toList.drop 23 = dktX6_find_1 := dk_seg dksX6_find_0 23 rfl rfl
theorem dX6_find_0 : decode cX6_find 0 = .ok (.iconst 0, 1) := dk_3 (dk_at dksX6_find_0 0 rfl rfl)
theorem dX6_find_1 : decode cX6_find 1 = .ok (.istore_n 2, 1) := dk_61 (dk_at dksX6_find_0 1 rfl rfl)
theorem dX6_find_2 : decode cX6_find 2 = .ok (.iload_n 2, 1) := dk_28 (dk_at dksX6_find_0 2 rfl rfl)
theorem dX6_find_3 : decode cX6_find 3 = .ok (.aload_n 1, 1) := dk_43 (dk_at dksX6_find_0 3 rfl rfl)
theorem dX6_find_4 : decode cX6_find 4 = .ok (.arraylength, 1) := dk_190 (dk_at dksX6_find_0 4 rfl rfl)
theorem dX6_find_5 : decode cX6_find 5 = .ok (.if_icmp .ge 21, 3) := dk_162 0 21 (dk_at dksX6_find_0 5 rfl rfl)
theorem dX6_find_8 : decode cX6_find 8 = .ok (.aload_n 0, 1) := dk_42 (dk_at dksX6_find_0 8 rfl rfl)
theorem dX6_find_9 : decode cX6_find 9 = .ok (.aload_n 1, 1) := dk_43 (dk_at dksX6_find_0 9 rfl rfl)
theorem dX6_find_10 : decode cX6_find 10 = .ok (.iload_n 2, 1) := dk_28 (dk_at dksX6_find_0 10 rfl rfl)
theorem dX6_find_11 : decode cX6_find 11 = .ok (.aaload, 1) := dk_50 (dk_at dksX6_find_0 11 rfl rfl)
theorem dX6_find_12 : decode cX6_find 12 = .ok (.invokevirtual 76, 3) := dk_182 0 76 (dk_at dksX6_find_0 12 rfl rfl)
theorem dX6_find_15 : decode cX6_find 15 = .ok (.ifCond .eq 5, 3) := dk_153 0 5 (dk_at dksX6_find_0 15 rfl rfl)
theorem dX6_find_18 : decode cX6_find 18 = .ok (.iload_n 2, 1) := dk_28 (dk_at dksX6_find_0 18 rfl rfl)
theorem dX6_find_19 : decode cX6_find 19 = .ok (.ireturn, 1) := dk_172 (dk_at dksX6_find_0 19 rfl rfl)
theorem dX6_find_20 : decode cX6_find 20 = .ok (.iinc 2 1, 3) := dk_132 2 1 (dk_at dksX6_find_0 20 rfl rfl)
theorem dX6_find_23 : decode cX6_find 23 = .ok (.goto (-21), 3) := dk_167 255 235 (dk_at dksX6_find_1 0 rfl rfl)
theorem dX6_find_26 : decode cX6_find 26 = .ok (.iconst (-1), 1) := dk_2 (dk_at dksX6_find_1 3 rfl rfl)
theorem dX6_find_27 : decode cX6_find 27 = .ok (.ireturn, 1) := dk_172 (dk_at dksX6_find_1 4 rfl rfl)
theorem hu_X6_76 : ∀ ci ∈ [5, 6, 7], ∃ rr : vw_C, gCl[ci]? = some rr ∧ GoodIn lw_all (va_wsU "BitingDoors$Reader" 76 rr.1 "BitingDoors$Reader" ⟨"BitingDoors$Reader", "is", "(Ljava/lang/String;)Z"⟩ yX6_is (ws_ yX6_is cX6_is 3 (some .boolean))) := by
  intro ci hc
  simp only [List.mem_cons, List.not_mem_nil, or_false] at hc
  rcases hc with rfl | rfl | rfl
  · refine ⟨_, gCl_X7, lw_app (fun w hw => ?_) (lw_meth q710)⟩
    simp only [List.mem_cons, List.not_mem_nil, or_false] at hw
    rcases hw with e | e | e | e | e
    · rw [e]; exact q704
    · rw [e]; exact q706
    · rw [e]; exact q708
    · rw [e]; exact q705
    · rw [e]; exact q116
  · refine ⟨_, gCl_X8, lw_app (fun w hw => ?_) (lw_meth q710)⟩
    simp only [List.mem_cons, List.not_mem_nil, or_false] at hw
    rcases hw with e | e | e | e | e
    · rw [e]; exact q704
    · rw [e]; exact q706
    · rw [e]; exact q707
    · rw [e]; exact q705
    · rw [e]; exact q116
  · refine ⟨_, gCl_X9, lw_app (fun w hw => ?_) (lw_meth q710)⟩
    simp only [List.mem_cons, List.not_mem_nil, or_false] at hw
    rcases hw with e | e | e | e | e
    · rw [e]; exact q704
    · rw [e]; exact q706
    · rw [e]; exact q709
    · rw [e]; exact q705
    · rw [e]; exact q116
theorem dn_X6_find : yX6_find.cls ≠ "java/lang/invoke/MethodHandle" ∧ yX6_find.cls ≠ "java/lang/invoke/VarHandle" ∧ (parseMethodDescriptor yX6_find.desc).map (fun d => d.parameters.length) = some 1 := by decide +kernel
noncomputable def M_X6_find (t : Nat) (p1 : Nat) : Mo Int32 := Mo.bind (chk [5, 6, 7] t) (fun _ => Mo.loop (S := Int32) (fun s1 => Mo.bind (alen [10] p1) (fun v4 => if v4 ≤ s1 then Mo.pure (Sum.inr (-1)) else Mo.bind (aldR 10 p1 s1) (fun v5 => Mo.bind (Mo.bind (chk [5, 6, 7] t) (fun _ => M_X6_is t v5)) (fun v6 => cond v6 (Mo.pure (Sum.inr s1)) (Mo.lv (s1 + 1) (fun v7 => Mo.pure (Sum.inl v7))))))) 0)
set_option maxHeartbeats 4000000 in
theorem ct_X6_find (G : gG) (t : Nat) (p1 : Nat) : gCt G yX6_find cX6_find 3 (some .int) 5 107 [.ref t, .ref p1] (M_X6_find t p1) (fun x : Int32 => some (.int x)) := by
  refine gCt.of (by decide) (Nat.le_of_ble_eq_true rfl) (fun K r hG X hd ho => ?_)
  subst hG
  have X : gX K cX6_find 3 "BitingDoors$Reader" "find" (some .int) 5 107 := X
  have hle : gLe (kh1 K) (kh1 K) := gLe.rf
  show V K 3 (kh0 K) 0 [(0, .ref t), (1, .ref p1)] []
  generalize kh0 K = h at hd ⊢
  unfold M_X6_find at hd
  obtain ⟨-, hd⟩ := chk_some hd
  refine v_iconst (v := 0) X dX6_find_0 (by decide) ?_
  refine v_istore_n (lv2 := [(2, .int 0), (0, .ref t), (1, .ref p1)]) X dX6_find_1 2 rfl (by decide) rfl ?_
  refine v_loc [1, 2, 0] rfl ?_
  refine loop_ind hd (fun (s1 : Int32) h => V K 3 h 2 [(0, .ref t), (1, .ref p1), (2, .int s1)] []) (fun s1 h x h2 hd hle0 ih2 ho3 => ?_)
  have hle := hle0.tr hle
  refine v_iload_n X dX6_find_2 2 2 rfl rfl ?_
  refine v_aload_n X dX6_find_3 1 1 rfl rfl ?_
  refine v_alen X hd 10 rfl (by decide) dX6_find_4 (fun v4 hd => ?_)
  refine v_icmp_ge (tgt := 26) X dX6_find_5 (by decide) (fun q => ?_) (fun q => ?_)
  · have hd := ite_t q hd
    refine v_iconst (v := (-1)) X dX6_find_26 (by decide) ?_
    have hd := lp_out hd ho3
    exact v_iret X hd ho dX6_find_27
  · have hd := ite_f q hd
    refine v_aload_n X dX6_find_8 0 0 rfl rfl ?_
    refine v_aload_n X dX6_find_9 1 1 rfl rfl ?_
    refine v_iload_n X dX6_find_10 2 2 rfl rfl ?_
    refine v_aldS X hd dX6_find_11 (fun v5 hd => ?_)
    refine v_callU X hd hle (ct_X6_is _ t v5) hu_X6_76 rfl dn_X6_is rfl ⟨by decide, by decide⟩ rfl (Nat.le_of_ble_eq_true rfl) dX6_find_12 (fun v6 h hd => ?_)
    show V K 3 h 15 [(0, .ref t), (1, .ref p1), (2, .int s1)] [.int (b2i v6)]
    refine v_ifZ_eq (tgt := 20) X dX6_find_15 (by decide) (fun q => ?_) (fun q => ?_)
    · have hd := cnd_f q hd
      refine v_iincL (lv2 := fun v7 => [(2, .int v7), (0, .ref t), (1, .ref p1)]) X hd dX6_find_20 2 rfl (by decide : Int32.ofInt 1 = 1) (by decide) (fun v7 => rfl) (fun v7 hd => ?_)
      refine v_goto (tgt := 2) X dX6_find_23 (by decide) ?_
      exact v_loc [1, 2, 0] rfl (lp_in (P := fun (s1 : Int32) h => V K 3 h 2 [(0, .ref t), (1, .ref p1), (2, .int s1)] []) hd ih2)
    · have hd := cnd_t q hd
      refine v_iload_n X dX6_find_18 2 2 rfl rfl ?_
      have hd := lp_out hd ho3
      exact v_iret X hd ho dX6_find_19
def dkwX6_isName_1 : List UInt8 := [182, 0, 88, 154, 0, 7, 4, 167, 0, 4, 3, 172]
abbrev dktX6_isName_1 : List UInt8 := dkwX6_isName_1 ++ []
def dkwX6_isName_0 : List UInt8 := [42, 180, 0, 43, 4, 160, 0, 29, 42, 42, 180, 0, 3, 180, 0, 80, 182, 0, 84, 2, 160, 0, 14, 42]
abbrev dktX6_isName_0 : List UInt8 := dkwX6_isName_0 ++ dktX6_isName_1
theorem dksX6_isName_0 : cX6_isName.data.toList.drop 0 = dktX6_isName_0 := by decide +kernel
theorem dksX6_isName_1 : cX6_isName.data.toList.drop 24 = dktX6_isName_1 := dk_seg dksX6_isName_0 24 rfl rfl
theorem dX6_isName_0 : decode cX6_isName 0 = .ok (.aload_n 0, 1) := dk_42 (dk_at dksX6_isName_0 0 rfl rfl)
theorem dX6_isName_1 : decode cX6_isName 1 = .ok (.getfield 43, 3) := dk_180 0 43 (dk_at dksX6_isName_0 1 rfl rfl)
theorem dX6_isName_4 : decode cX6_isName 4 = .ok (.iconst 1, 1) := dk_4 (dk_at dksX6_isName_0 4 rfl rfl)
theorem dX6_isName_5 : decode cX6_isName 5 = .ok (.if_icmp .ne 29, 3) := dk_160 0 29 (dk_at dksX6_isName_0 5 rfl rfl)
theorem dX6_isName_8 : decode cX6_isName 8 = .ok (.aload_n 0, 1) := dk_42 (dk_at dksX6_isName_0 8 rfl rfl)
theorem dX6_isName_9 : decode cX6_isName 9 = .ok (.aload_n 0, 1) := dk_42 (dk_at dksX6_isName_0 9 rfl rfl)
theorem dX6_isName_10 : decode cX6_isName 10 = .ok (.getfield 3, 3) := dk_180 0 3 (dk_at dksX6_isName_0 10 rfl rfl)
theorem dX6_isName_13 : decode cX6_isName 13 = .ok (.getfield 80, 3) := dk_180 0 80 (dk_at dksX6_isName_0 13 rfl rfl)
theorem dX6_isName_16 : decode cX6_isName 16 = .ok (.invokevirtual 84, 3) := dk_182 0 84 (dk_at dksX6_isName_0 16 rfl rfl)
theorem dX6_isName_19 : decode cX6_isName 19 = .ok (.iconst (-1), 1) := dk_2 (dk_at dksX6_isName_0 19 rfl rfl)
theorem dX6_isName_20 : decode cX6_isName 20 = .ok (.if_icmp .ne 14, 3) := dk_160 0 14 (dk_at dksX6_isName_0 20 rfl rfl)
theorem dX6_isName_23 : decode cX6_isName 23 = .ok (.aload_n 0, 1) := dk_42 (dk_at dksX6_isName_0 23 rfl rfl)
theorem dX6_isName_24 : decode cX6_isName 24 = .ok (.invokevirtual 88, 3) := dk_182 0 88 (dk_at dksX6_isName_1 0 rfl rfl)
theorem dX6_isName_27 : decode cX6_isName 27 = .ok (.ifCond .ne 7, 3) := dk_154 0 7 (dk_at dksX6_isName_1 3 rfl rfl)
theorem dX6_isName_30 : decode cX6_isName 30 = .ok (.iconst 1, 1) := dk_4 (dk_at dksX6_isName_1 6 rfl rfl)
theorem dX6_isName_31 : decode cX6_isName 31 = .ok (.goto 4, 3) := dk_167 0 4 (dk_at dksX6_isName_1 7 rfl rfl)
theorem dX6_isName_34 : decode cX6_isName 34 = .ok (.iconst 0, 1) := dk_3 (dk_at dksX6_isName_1 10 rfl rfl)
theorem dX6_isName_35 : decode cX6_isName 35 = .ok (.ireturn, 1) := dk_172 (dk_at dksX6_isName_1 11 rfl rfl)
theorem fl_X6_80 : gFl "BitingDoors$Reader" 80 [0] 5 := by
  intro args s hts hN ci hc
  simp only [List.mem_cons, List.not_mem_nil, or_false] at hc
  subst hc
  exact ⟨RX1, TX1, 46, "BitingDoors", gCl_X1, in_X1, by decide, Or.inr ⟨"BitingDoors", va_Nw.use rfl (hN.1 ("BitingDoors$Reader", 80, "BitingDoors", "words", "[Ljava/lang/String;", "BitingDoors") (List.mem_of_getElem? (i := 41) rfl))⟩, fun _ h => h⟩
theorem hu_X6_84 : ∀ ci ∈ [5, 6, 7], ∃ rr : vw_C, gCl[ci]? = some rr ∧ GoodIn lw_all (va_wsU "BitingDoors$Reader" 84 rr.1 "BitingDoors$Reader" ⟨"BitingDoors$Reader", "find", "([Ljava/lang/String;)I"⟩ yX6_find (ws_ yX6_find cX6_find 3 (some .int))) := by
  intro ci hc
  simp only [List.mem_cons, List.not_mem_nil, or_false] at hc
  rcases hc with rfl | rfl | rfl
  · refine ⟨_, gCl_X7, lw_app (fun w hw => ?_) (lw_meth q703)⟩
    simp only [List.mem_cons, List.not_mem_nil, or_false] at hw
    rcases hw with e | e | e | e | e
    · rw [e]; exact q800
    · rw [e]; exact q2345
    · rw [e]; exact q2347
    · rw [e]; exact q702
    · rw [e]; exact q116
  · refine ⟨_, gCl_X8, lw_app (fun w hw => ?_) (lw_meth q703)⟩
    simp only [List.mem_cons, List.not_mem_nil, or_false] at hw
    rcases hw with e | e | e | e | e
    · rw [e]; exact q800
    · rw [e]; exact q2345
    · rw [e]; exact q2346
    · rw [e]; exact q702
    · rw [e]; exact q116
  · refine ⟨_, gCl_X9, lw_app (fun w hw => ?_) (lw_meth q703)⟩
    simp only [List.mem_cons, List.not_mem_nil, or_false] at hw
    rcases hw with e | e | e | e | e
    · rw [e]; exact q800
    · rw [e]; exact q2345
    · rw [e]; exact q2348
    · rw [e]; exact q702
    · rw [e]; exact q116
theorem hu_X6_88 : ∀ ci ∈ [5, 6, 7], ∃ rr : vw_C, gCl[ci]? = some rr ∧ GoodIn lw_all (va_wsU "BitingDoors$Reader" 88 rr.1 "BitingDoors$Reader" ⟨"BitingDoors$Reader", "areCells", "()Z"⟩ yX6_areCells (ws_ yX6_areCells cX6_areCells 2 (some .boolean))) := by
  intro ci hc
  simp only [List.mem_cons, List.not_mem_nil, or_false] at hc
  rcases hc with rfl | rfl | rfl
  · refine ⟨_, gCl_X7, lw_app (fun w hw => ?_) (lw_meth q789)⟩
    simp only [List.mem_cons, List.not_mem_nil, or_false] at hw
    rcases hw with e | e | e | e | e
    · rw [e]; exact q801
    · rw [e]; exact q2349
    · rw [e]; exact q2351
    · rw [e]; exact q788
    · rw [e]; exact q116
  · refine ⟨_, gCl_X8, lw_app (fun w hw => ?_) (lw_meth q789)⟩
    simp only [List.mem_cons, List.not_mem_nil, or_false] at hw
    rcases hw with e | e | e | e | e
    · rw [e]; exact q801
    · rw [e]; exact q2349
    · rw [e]; exact q2350
    · rw [e]; exact q788
    · rw [e]; exact q116
  · refine ⟨_, gCl_X9, lw_app (fun w hw => ?_) (lw_meth q789)⟩
    simp only [List.mem_cons, List.not_mem_nil, or_false] at hw
    rcases hw with e | e | e | e | e
    · rw [e]; exact q801
    · rw [e]; exact q2349
    · rw [e]; exact q2352
    · rw [e]; exact q788
    · rw [e]; exact q116
theorem dn_X6_isName : yX6_isName.cls ≠ "java/lang/invoke/MethodHandle" ∧ yX6_isName.cls ≠ "java/lang/invoke/VarHandle" ∧ (parseMethodDescriptor yX6_isName.desc).map (fun d => d.parameters.length) = some 0 := by decide +kernel
noncomputable def M_X6_isName (t : Nat) : Mo Bool := Mo.bind (chk [5, 6, 7] t) (fun _ => Mo.bind (gI [5, 6, 7] t 3) (fun v1 => Mo.bind ((if v1 = 1 then Mo.bind (gR [5, 6, 7] t 7) (fun v3 => Mo.bind (gR [0] v3 5) (fun v4 => Mo.bind (Mo.bind (chk [5, 6, 7] t) (fun _ => M_X6_find t v4)) (fun v5 => if v5 = (-1) then Mo.bind (Mo.bind (chk [5, 6, 7] t) (fun _ => M_X6_areCells t)) (fun v6 => cond v6 (Mo.pure false) (Mo.pure true)) else Mo.pure false))) else Mo.pure false : Mo (Bool))) (fun u2 => Mo.pure u2)))
set_option maxHeartbeats 4000000 in
theorem ct_X6_isName (G : gG) (t : Nat) : gCt G yX6_isName cX6_isName 1 (some .boolean) 6 129 [.ref t] (M_X6_isName t) (fun x : Bool => some (.int (b2i x))) := by
  refine gCt.of (by decide) (Nat.le_of_ble_eq_true rfl) (fun K r hG X hd ho => ?_)
  subst hG
  have X : gX K cX6_isName 1 "BitingDoors$Reader" "isName" (some .boolean) 6 129 := X
  have hle : gLe (kh1 K) (kh1 K) := gLe.rf
  show V K 1 (kh0 K) 0 [(0, .ref t)] []
  generalize kh0 K = h at hd ⊢
  unfold M_X6_isName at hd
  obtain ⟨-, hd⟩ := chk_some hd
  refine v_aload_n X dX6_isName_0 0 0 rfl rfl ?_
  refine v_getI X hd fl_X6_43 dX6_isName_1 (fun v1 hd => ?_)
  refine v_iconst (v := 1) X dX6_isName_4 (by decide) ?_
  obtain ⟨u2, h1, hd, hd2⟩ := Mo.bind_some hd
  have KJ : V K 1 h1 35 [] [.int (b2i u2)] := by
    clear hd
    have hd := hd2
    exact v_zret X hd rfl ho dX6_isName_35
  have hle := (Mo.le hd2).tr hle
  clear hd2
  refine v_icmp_ne (tgt := 34) X dX6_isName_5 (by decide) (fun q => ?_) (fun q => ?_)
  · have hd := ite_f q hd
    refine v_iconst (v := 0) X dX6_isName_34 (by decide) ?_
    exact v_loc [] rfl (v_at (P := fun (u2 : Bool) h => V K 1 h 35 [] [.int (b2i u2)]) hd KJ)
  · have hd := ite_t q hd
    refine v_aload_n X dX6_isName_8 0 0 rfl rfl ?_
    refine v_aload_n X dX6_isName_9 0 0 rfl rfl ?_
    refine v_getR X hd fl_X6_3 dX6_isName_10 (fun v3 hd => ?_)
    refine v_getR X hd fl_X6_80 dX6_isName_13 (fun v4 hd => ?_)
    refine v_callU X hd hle (ct_X6_find _ t v4) hu_X6_84 rfl dn_X6_find rfl ⟨by decide, by decide⟩ rfl (Nat.le_of_ble_eq_true rfl) dX6_isName_16 (fun v5 h hd => ?_)
    show V K 1 h 19 [(0, .ref t)] [.int v5]
    refine v_iconst (v := (-1)) X dX6_isName_19 (by decide) ?_
    refine v_icmp_ne (tgt := 34) X dX6_isName_20 (by decide) (fun q => ?_) (fun q => ?_)
    · have hd := ite_f q hd
      refine v_iconst (v := 0) X dX6_isName_34 (by decide) ?_
      exact v_loc [] rfl (v_at (P := fun (u2 : Bool) h => V K 1 h 35 [] [.int (b2i u2)]) hd KJ)
    · have hd := ite_t q hd
      refine v_aload_n X dX6_isName_23 0 0 rfl rfl ?_
      refine v_callU X hd hle (ct_X6_areCells _ t) hu_X6_88 rfl dn_X6_areCells rfl ⟨by decide, by decide⟩ rfl (Nat.le_of_ble_eq_true rfl) dX6_isName_24 (fun v6 h hd => ?_)
      show V K 1 h 27 [(0, .ref t)] [.int (b2i v6)]
      refine v_ifZ_ne (tgt := 34) X dX6_isName_27 (by decide) (fun q => ?_) (fun q => ?_)
      · have hd := cnd_t q hd
        refine v_iconst (v := 0) X dX6_isName_34 (by decide) ?_
        exact v_loc [] rfl (v_at (P := fun (u2 : Bool) h => V K 1 h 35 [] [.int (b2i u2)]) hd KJ)
      · have hd := cnd_f q hd
        refine v_iconst (v := 1) X dX6_isName_30 (by decide) ?_
        refine v_goto (tgt := 35) X dX6_isName_31 (by decide) ?_
        exact v_loc [] rfl (v_at (P := fun (u2 : Bool) h => V K 1 h 35 [] [.int (b2i u2)]) hd KJ)
def dkwX6_must_0 : List UInt8 := [27, 154, 0, 9, 42, 28, 182, 0, 104, 191, 177]
abbrev dktX6_must_0 : List UInt8 := dkwX6_must_0 ++ []
theorem dksX6_must_0 : cX6_must.data.toList.drop 0 = dktX6_must_0 := by decide +kernel
theorem dX6_must_0 : decode cX6_must 0 = .ok (.iload_n 1, 1) := dk_27 (dk_at dksX6_must_0 0 rfl rfl)
theorem dX6_must_1 : decode cX6_must 1 = .ok (.ifCond .ne 9, 3) := dk_154 0 9 (dk_at dksX6_must_0 1 rfl rfl)
theorem dX6_must_4 : decode cX6_must 4 = .ok (.aload_n 0, 1) := dk_42 (dk_at dksX6_must_0 4 rfl rfl)
theorem dX6_must_5 : decode cX6_must 5 = .ok (.iload_n 2, 1) := dk_28 (dk_at dksX6_must_0 5 rfl rfl)
theorem dX6_must_6 : decode cX6_must 6 = .ok (.invokevirtual 104, 3) := dk_182 0 104 (dk_at dksX6_must_0 6 rfl rfl)
theorem dX6_must_9 : decode cX6_must 9 = .ok (.athrow, 1) := dk_191 (dk_at dksX6_must_0 9 rfl rfl)
theorem dX6_must_10 : decode cX6_must 10 = .ok (.return_, 1) := dk_177 (dk_at dksX6_must_0 10 rfl rfl)
theorem hu_X6_104 : ∀ ci ∈ [5, 6, 7], ∃ rr : vw_C, gCl[ci]? = some rr ∧ GoodIn lw_all (va_wsU "BitingDoors$Reader" 104 rr.1 "BitingDoors$Reader" ⟨"BitingDoors$Reader", "wrong", "(I)LBitingDoors$Fault;"⟩ yX6_wrong (ws_ yX6_wrong cX6_wrong 2 (some (.object "BitingDoors$Fault")))) := by
  intro ci hc
  simp only [List.mem_cons, List.not_mem_nil, or_false] at hc
  rcases hc with rfl | rfl | rfl
  · refine ⟨_, gCl_X7, lw_app (fun w hw => ?_) (lw_meth q771)⟩
    simp only [List.mem_cons, List.not_mem_nil, or_false] at hw
    rcases hw with e | e | e | e | e
    · rw [e]; exact q765
    · rw [e]; exact q767
    · rw [e]; exact q769
    · rw [e]; exact q766
    · rw [e]; exact q116
  · refine ⟨_, gCl_X8, lw_app (fun w hw => ?_) (lw_meth q771)⟩
    simp only [List.mem_cons, List.not_mem_nil, or_false] at hw
    rcases hw with e | e | e | e | e
    · rw [e]; exact q765
    · rw [e]; exact q767
    · rw [e]; exact q768
    · rw [e]; exact q766
    · rw [e]; exact q116
  · refine ⟨_, gCl_X9, lw_app (fun w hw => ?_) (lw_meth q771)⟩
    simp only [List.mem_cons, List.not_mem_nil, or_false] at hw
    rcases hw with e | e | e | e | e
    · rw [e]; exact q765
    · rw [e]; exact q767
    · rw [e]; exact q770
    · rw [e]; exact q766
    · rw [e]; exact q116
theorem dn_X6_must : yX6_must.cls ≠ "java/lang/invoke/MethodHandle" ∧ yX6_must.cls ≠ "java/lang/invoke/VarHandle" ∧ (parseMethodDescriptor yX6_must.desc).map (fun d => d.parameters.length) = some 2 := by decide +kernel
noncomputable def M_X6_must (t : Nat) (p1 : Bool) (p2 : Int32) : Mo (Nat ⊕ Unit) := Mo.bind (chk [5, 6, 7] t) (fun _ => cond p1 (Mo.pure (Sum.inr ())) (Mo.bind (Mo.bind (chk [5, 6, 7] t) (fun _ => M_X6_wrong t p2)) (fun v1 => Mo.pure (Sum.inl v1))))
set_option maxHeartbeats 4000000 in
theorem ct_X6_must (G : gG) (t : Nat) (p1 : Bool) (p2 : Int32) : gCx G yX6_must cX6_must 3 none 1 21 [.ref t, .int (b2i p1), .int p2] (M_X6_must t p1 p2) (fun _ : Unit => none) := by
  refine gCx.of (by decide) (Nat.le_of_ble_eq_true rfl) (fun K r hG X hex hd ho => ?_)
  subst hG
  have X : gX K cX6_must 3 "BitingDoors$Reader" "must" none 1 21 := X
  have hle : gLe (kh1 K) (kh1 K) := gLe.rf
  show V K 3 (kh0 K) 0 [(0, .ref t), (1, .int (b2i p1)), (2, .int p2)] []
  generalize kh0 K = h at hd ⊢
  unfold M_X6_must at hd
  obtain ⟨-, hd⟩ := chk_some hd
  refine v_iload_n X dX6_must_0 1 1 rfl rfl ?_
  refine v_ifZ_ne (tgt := 10) X dX6_must_1 (by decide) (fun q => ?_) (fun q => ?_)
  · have hd := cnd_t q hd
    obtain ⟨rfl, hx⟩ := px_inr hd
    exact v_vret X hx ho dX6_must_10
  · have hd := cnd_f q hd
    refine v_aload_n X dX6_must_4 0 0 rfl rfl ?_
    refine v_iload_n X dX6_must_5 2 2 rfl rfl ?_
    refine v_callU X hd hle (ct_X6_wrong _ t p2) hu_X6_104 rfl dn_X6_wrong rfl ⟨by decide, by decide⟩ rfl (Nat.le_of_ble_eq_true rfl) dX6_must_6 (fun v1 h hd => ?_)
    show V K 3 h 9 [(0, .ref t), (1, .int (b2i p1)), (2, .int p2)] [.ref v1]
    obtain ⟨rfl, hh⟩ := px_inl hd
    exact v_athrow X hex ho hh dX6_must_9
def dkwX6_sign_0 : List UInt8 := [42, 42, 27, 182, 0, 108, 4, 182, 0, 110, 42, 182, 0, 22, 177]
abbrev dktX6_sign_0 : List UInt8 := dkwX6_sign_0 ++ []
theorem dksX6_sign_0 : cX6_sign.data.toList.drop 0 = dktX6_sign_0 := by decide +kernel
theorem dX6_sign_0 : decode cX6_sign 0 = .ok (.aload_n 0, 1) := dk_42 (dk_at dksX6_sign_0 0 rfl rfl)
theorem dX6_sign_1 : decode cX6_sign 1 = .ok (.aload_n 0, 1) := dk_42 (dk_at dksX6_sign_0 1 rfl rfl)
theorem dX6_sign_2 : decode cX6_sign 2 = .ok (.iload_n 1, 1) := dk_27 (dk_at dksX6_sign_0 2 rfl rfl)
theorem dX6_sign_3 : decode cX6_sign 3 = .ok (.invokevirtual 108, 3) := dk_182 0 108 (dk_at dksX6_sign_0 3 rfl rfl)
theorem dX6_sign_6 : decode cX6_sign 6 = .ok (.iconst 1, 1) := dk_4 (dk_at dksX6_sign_0 6 rfl rfl)
theorem dX6_sign_7 : decode cX6_sign 7 = .ok (.invokevirtual 110, 3) := dk_182 0 110 (dk_at dksX6_sign_0 7 rfl rfl)
theorem dX6_sign_10 : decode cX6_sign 10 = .ok (.aload_n 0, 1) := dk_42 (dk_at dksX6_sign_0 10 rfl rfl)
theorem dX6_sign_11 : decode cX6_sign 11 = .ok (.invokevirtual 22, 3) := dk_182 0 22 (dk_at dksX6_sign_0 11 rfl rfl)
theorem dX6_sign_14 : decode cX6_sign 14 = .ok (.return_, 1) := dk_177 (dk_at dksX6_sign_0 14 rfl rfl)
theorem hu_X6_108 : ∀ ci ∈ [5, 6, 7], ∃ rr : vw_C, gCl[ci]? = some rr ∧ GoodIn lw_all (va_wsU "BitingDoors$Reader" 108 rr.1 "BitingDoors$Reader" ⟨"BitingDoors$Reader", "is", "(I)Z"⟩ yX6_is_2 (ws_ yX6_is_2 cX6_is_2 2 (some .boolean))) := by
  intro ci hc
  simp only [List.mem_cons, List.not_mem_nil, or_false] at hc
  rcases hc with rfl | rfl | rfl
  · refine ⟨_, gCl_X7, lw_app (fun w hw => ?_) (lw_meth q919)⟩
    simp only [List.mem_cons, List.not_mem_nil, or_false] at hw
    rcases hw with e | e | e | e | e
    · rw [e]; exact q913
    · rw [e]; exact q915
    · rw [e]; exact q917
    · rw [e]; exact q914
    · rw [e]; exact q116
  · refine ⟨_, gCl_X8, lw_app (fun w hw => ?_) (lw_meth q919)⟩
    simp only [List.mem_cons, List.not_mem_nil, or_false] at hw
    rcases hw with e | e | e | e | e
    · rw [e]; exact q913
    · rw [e]; exact q915
    · rw [e]; exact q916
    · rw [e]; exact q914
    · rw [e]; exact q116
  · refine ⟨_, gCl_X9, lw_app (fun w hw => ?_) (lw_meth q919)⟩
    simp only [List.mem_cons, List.not_mem_nil, or_false] at hw
    rcases hw with e | e | e | e | e
    · rw [e]; exact q913
    · rw [e]; exact q915
    · rw [e]; exact q918
    · rw [e]; exact q914
    · rw [e]; exact q116
theorem hu_X6_110 : ∀ ci ∈ [5, 6, 7], ∃ rr : vw_C, gCl[ci]? = some rr ∧ GoodIn lw_all (va_wsU "BitingDoors$Reader" 110 rr.1 "BitingDoors$Reader" ⟨"BitingDoors$Reader", "must", "(ZI)V"⟩ yX6_must (ws_ yX6_must cX6_must 3 none)) := by
  intro ci hc
  simp only [List.mem_cons, List.not_mem_nil, or_false] at hc
  rcases hc with rfl | rfl | rfl
  · refine ⟨_, gCl_X7, lw_app (fun w hw => ?_) (lw_meth q764)⟩
    simp only [List.mem_cons, List.not_mem_nil, or_false] at hw
    rcases hw with e | e | e | e | e
    · rw [e]; exact q814
    · rw [e]; exact q2353
    · rw [e]; exact q2355
    · rw [e]; exact q763
    · rw [e]; exact q116
  · refine ⟨_, gCl_X8, lw_app (fun w hw => ?_) (lw_meth q764)⟩
    simp only [List.mem_cons, List.not_mem_nil, or_false] at hw
    rcases hw with e | e | e | e | e
    · rw [e]; exact q814
    · rw [e]; exact q2353
    · rw [e]; exact q2354
    · rw [e]; exact q763
    · rw [e]; exact q116
  · refine ⟨_, gCl_X9, lw_app (fun w hw => ?_) (lw_meth q764)⟩
    simp only [List.mem_cons, List.not_mem_nil, or_false] at hw
    rcases hw with e | e | e | e | e
    · rw [e]; exact q814
    · rw [e]; exact q2353
    · rw [e]; exact q2356
    · rw [e]; exact q763
    · rw [e]; exact q116
theorem dn_X6_sign : yX6_sign.cls ≠ "java/lang/invoke/MethodHandle" ∧ yX6_sign.cls ≠ "java/lang/invoke/VarHandle" ∧ (parseMethodDescriptor yX6_sign.desc).map (fun d => d.parameters.length) = some 1 := by decide +kernel
noncomputable def M_X6_sign (t : Nat) (p1 : Int32) : Mo (Nat ⊕ Unit) := Mo.bind (chk [5, 6, 7] t) (fun _ => Mo.bind (Mo.bind (chk [5, 6, 7] t) (fun _ => M_X6_is_2 t p1)) (fun v1 => Mo.bind (Mo.bind (chk [5, 6, 7] t) (fun _ => M_X6_must t v1 1)) (fun w => Mo.cs w (fun b => Mo.pure (Sum.inl b)) (fun v2 => Mo.bind (Mo.bind (chk [5, 6, 7] t) (fun _ => M_X6_next t)) (fun v3 => Mo.pure (Sum.inr ()))))))
set_option maxHeartbeats 4000000 in
theorem ct_X6_sign (G : gG) (t : Nat) (p1 : Int32) : gCx G yX6_sign cX6_sign 2 none 4 86 [.ref t, .int p1] (M_X6_sign t p1) (fun _ : Unit => none) := by
  refine gCx.of (by decide) (Nat.le_of_ble_eq_true rfl) (fun K r hG X hex hd ho => ?_)
  subst hG
  have X : gX K cX6_sign 2 "BitingDoors$Reader" "sign" none 4 86 := X
  have hle : gLe (kh1 K) (kh1 K) := gLe.rf
  show V K 2 (kh0 K) 0 [(0, .ref t), (1, .int p1)] []
  generalize kh0 K = h at hd ⊢
  unfold M_X6_sign at hd
  obtain ⟨-, hd⟩ := chk_some hd
  refine v_aload_n X dX6_sign_0 0 0 rfl rfl ?_
  refine v_aload_n X dX6_sign_1 0 0 rfl rfl ?_
  refine v_iload_n X dX6_sign_2 1 1 rfl rfl ?_
  refine v_callU X hd hle (ct_X6_is_2 _ t p1) hu_X6_108 rfl dn_X6_is_2 rfl ⟨by decide, by decide⟩ rfl (Nat.le_of_ble_eq_true rfl) dX6_sign_3 (fun v1 h hd => ?_)
  show V K 2 h 6 [(0, .ref t), (1, .int p1)] [.int (b2i v1), .ref t]
  refine v_iconst (v := 1) X dX6_sign_6 (by decide) ?_
  refine v_callUX X hd hle (ct_X6_must _ t v1 1) hu_X6_110 rfl dn_X6_must rfl q116 q764 ⟨by decide, by decide⟩ rfl (Nat.le_of_ble_eq_true rfl) dX6_sign_7 (fun v2 h hd => ?_) (fun b h hd => ?_)
  · show V K 2 h 10 [(0, .ref t), (1, .int p1)] []
    have hd := cs_r hd
    refine v_aload_n X dX6_sign_10 0 0 rfl rfl ?_
    refine v_callU X hd hle (ct_X6_next _ t) hu_X6_22 rfl dn_X6_next rfl ⟨by decide, by decide⟩ rfl (Nat.le_of_ble_eq_true rfl) dX6_sign_11 (fun v3 h hd => ?_)
    show V K 2 h 14 [(0, .ref t), (1, .int p1)] []
    obtain ⟨rfl, hx⟩ := px_inr hd
    exact v_vret X hx ho dX6_sign_14
  · have hd := cs_l hd
    obtain ⟨rfl, hh⟩ := px_inl hd
    exact vx_leave X hex ho hh
def dkwX6_number_1 : List UInt8 := [28, 184, 0, 32, 5, 182, 0, 110, 42, 180, 0, 57, 62, 42, 182, 0, 22, 29, 172]
abbrev dktX6_number_1 : List UInt8 := dkwX6_number_1 ++ []
def dkwX6_number_0 : List UInt8 := [42, 42, 180, 0, 43, 5, 160, 0, 7, 4, 167, 0, 4, 3, 4, 182, 0, 110, 42, 42, 180, 0, 57, 27]
abbrev dktX6_number_0 : List UInt8 := dkwX6_number_0 ++ dktX6_number_1
theorem dksX6_number_0 : cX6_number.data.toList.drop 0 = dktX6_number_0 := by decide +kernel
theorem dksX6_number_1 : cX6_number.data.toList.drop 24 = dktX6_number_1 := dk_seg dksX6_number_0 24 rfl rfl
theorem dX6_number_0 : decode cX6_number 0 = .ok (.aload_n 0, 1) := dk_42 (dk_at dksX6_number_0 0 rfl rfl)
theorem dX6_number_1 : decode cX6_number 1 = .ok (.aload_n 0, 1) := dk_42 (dk_at dksX6_number_0 1 rfl rfl)
theorem dX6_number_2 : decode cX6_number 2 = .ok (.getfield 43, 3) := dk_180 0 43 (dk_at dksX6_number_0 2 rfl rfl)
theorem dX6_number_5 : decode cX6_number 5 = .ok (.iconst 2, 1) := dk_5 (dk_at dksX6_number_0 5 rfl rfl)
theorem dX6_number_6 : decode cX6_number 6 = .ok (.if_icmp .ne 7, 3) := dk_160 0 7 (dk_at dksX6_number_0 6 rfl rfl)
theorem dX6_number_9 : decode cX6_number 9 = .ok (.iconst 1, 1) := dk_4 (dk_at dksX6_number_0 9 rfl rfl)
theorem dX6_number_10 : decode cX6_number 10 = .ok (.goto 4, 3) := dk_167 0 4 (dk_at dksX6_number_0 10 rfl rfl)
theorem dX6_number_13 : decode cX6_number 13 = .ok (.iconst 0, 1) := dk_3 (dk_at dksX6_number_0 13 rfl rfl)
theorem dX6_number_14 : decode cX6_number 14 = .ok (.iconst 1, 1) := dk_4 (dk_at dksX6_number_0 14 rfl rfl)
theorem dX6_number_15 : decode cX6_number 15 = .ok (.invokevirtual 110, 3) := dk_182 0 110 (dk_at dksX6_number_0 15 rfl rfl)
theorem dX6_number_18 : decode cX6_number 18 = .ok (.aload_n 0, 1) := dk_42 (dk_at dksX6_number_0 18 rfl rfl)
theorem dX6_number_19 : decode cX6_number 19 = .ok (.aload_n 0, 1) := dk_42 (dk_at dksX6_number_0 19 rfl rfl)
theorem dX6_number_20 : decode cX6_number 20 = .ok (.getfield 57, 3) := dk_180 0 57 (dk_at dksX6_number_0 20 rfl rfl)
theorem dX6_number_23 : decode cX6_number 23 = .ok (.iload_n 1, 1) := dk_27 (dk_at dksX6_number_0 23 rfl rfl)
theorem dX6_number_24 : decode cX6_number 24 = .ok (.iload_n 2, 1) := dk_28 (dk_at dksX6_number_1 0 rfl rfl)
theorem dX6_number_25 : decode cX6_number 25 = .ok (.invokestatic 32, 3) := dk_184 0 32 (dk_at dksX6_number_1 1 rfl rfl)
theorem dX6_number_28 : decode cX6_number 28 = .ok (.iconst 2, 1) := dk_5 (dk_at dksX6_number_1 4 rfl rfl)
theorem dX6_number_29 : decode cX6_number 29 = .ok (.invokevirtual 110, 3) := dk_182 0 110 (dk_at dksX6_number_1 5 rfl rfl)
theorem dX6_number_32 : decode cX6_number 32 = .ok (.aload_n 0, 1) := dk_42 (dk_at dksX6_number_1 8 rfl rfl)
theorem dX6_number_33 : decode cX6_number 33 = .ok (.getfield 57, 3) := dk_180 0 57 (dk_at dksX6_number_1 9 rfl rfl)
theorem dX6_number_36 : decode cX6_number 36 = .ok (.istore_n 3, 1) := dk_62 (dk_at dksX6_number_1 12 rfl rfl)
theorem dX6_number_37 : decode cX6_number 37 = .ok (.aload_n 0, 1) := dk_42 (dk_at dksX6_number_1 13 rfl rfl)
theorem dX6_number_38 : decode cX6_number 38 = .ok (.invokevirtual 22, 3) := dk_182 0 22 (dk_at dksX6_number_1 14 rfl rfl)
theorem dX6_number_41 : decode cX6_number 41 = .ok (.iload_n 3, 1) := dk_29 (dk_at dksX6_number_1 17 rfl rfl)
theorem dX6_number_42 : decode cX6_number 42 = .ok (.ireturn, 1) := dk_172 (dk_at dksX6_number_1 18 rfl rfl)
theorem dn_X6_number : yX6_number.cls ≠ "java/lang/invoke/MethodHandle" ∧ yX6_number.cls ≠ "java/lang/invoke/VarHandle" ∧ (parseMethodDescriptor yX6_number.desc).map (fun d => d.parameters.length) = some 2 := by decide +kernel
noncomputable def M_X6_number (t : Nat) (p1 : Int32) (p2 : Int32) : Mo (Nat ⊕ Int32) := Mo.bind (chk [5, 6, 7] t) (fun _ => Mo.bind (gI [5, 6, 7] t 3) (fun v1 => Mo.bind ((if v1 = 2 then Mo.pure true else Mo.pure false : Mo (Bool))) (fun u2 => Mo.bind (Mo.bind (chk [5, 6, 7] t) (fun _ => M_X6_must t u2 1)) (fun w => Mo.cs w (fun b => Mo.pure (Sum.inl b)) (fun v3 => Mo.bind (gI [5, 6, 7] t 4) (fun v4 => Mo.bind (M_X1_isIn v4 p1 p2) (fun v5 => Mo.bind (Mo.bind (chk [5, 6, 7] t) (fun _ => M_X6_must t v5 2)) (fun w => Mo.cs w (fun b => Mo.pure (Sum.inl b)) (fun v6 => Mo.bind (gI [5, 6, 7] t 4) (fun v7 => Mo.bind (Mo.bind (chk [5, 6, 7] t) (fun _ => M_X6_next t)) (fun v8 => Mo.pure (Sum.inr v7))))))))))))
set_option maxHeartbeats 4000000 in
theorem ct_X6_number (G : gG) (t : Nat) (p1 : Int32) (p2 : Int32) : gCx G yX6_number cX6_number 4 (some .int) 4 86 [.ref t, .int p1, .int p2] (M_X6_number t p1 p2) (fun x : Int32 => some (.int x)) := by
  refine gCx.of (by decide) (Nat.le_of_ble_eq_true rfl) (fun K r hG X hex hd ho => ?_)
  subst hG
  have X : gX K cX6_number 4 "BitingDoors$Reader" "number" (some .int) 4 86 := X
  have hle : gLe (kh1 K) (kh1 K) := gLe.rf
  show V K 4 (kh0 K) 0 [(0, .ref t), (1, .int p1), (2, .int p2)] []
  generalize kh0 K = h at hd ⊢
  unfold M_X6_number at hd
  obtain ⟨-, hd⟩ := chk_some hd
  refine v_aload_n X dX6_number_0 0 0 rfl rfl ?_
  refine v_aload_n X dX6_number_1 0 0 rfl rfl ?_
  refine v_getI X hd fl_X6_43 dX6_number_2 (fun v1 hd => ?_)
  refine v_iconst (v := 2) X dX6_number_5 (by decide) ?_
  obtain ⟨u2, h1, hd, hd2⟩ := Mo.bind_some hd
  have KJ : V K 4 h1 14 [(0, .ref t), (1, .int p1), (2, .int p2)] [.int (b2i u2), .ref t] := by
    clear hd
    have hd := hd2
    refine v_iconst (v := 1) X dX6_number_14 (by decide) ?_
    refine v_callUX X hd hle (ct_X6_must _ t u2 1) hu_X6_110 rfl dn_X6_must rfl q116 q764 ⟨by decide, by decide⟩ rfl (Nat.le_of_ble_eq_true rfl) dX6_number_15 (fun v3 h hd => ?_) (fun b h hd => ?_)
    · show V K 4 h 18 [(0, .ref t), (1, .int p1), (2, .int p2)] []
      have hd := cs_r hd
      refine v_aload_n X dX6_number_18 0 0 rfl rfl ?_
      refine v_aload_n X dX6_number_19 0 0 rfl rfl ?_
      refine v_getI X hd fl_X6_57 dX6_number_20 (fun v4 hd => ?_)
      refine v_iload_n X dX6_number_23 1 1 rfl rfl ?_
      refine v_iload_n X dX6_number_24 2 2 rfl rfl ?_
      refine v_callSN (host := "BitingDoors") X hd hle (ct_X1_isIn _ v4 p1 p2) (List.mem_of_getElem? (i := 6) rfl) q689 q688 q109 dn_X1_isIn rfl ⟨by decide, by decide⟩ rfl (Nat.le_of_ble_eq_true rfl) dX6_number_25 (fun v5 h hd => ?_)
      show V K 4 h 28 [(0, .ref t), (1, .int p1), (2, .int p2)] [.int (b2i v5), .ref t]
      refine v_iconst (v := 2) X dX6_number_28 (by decide) ?_
      refine v_callUX X hd hle (ct_X6_must _ t v5 2) hu_X6_110 rfl dn_X6_must rfl q116 q764 ⟨by decide, by decide⟩ rfl (Nat.le_of_ble_eq_true rfl) dX6_number_29 (fun v6 h hd => ?_) (fun b h hd => ?_)
      · show V K 4 h 32 [(0, .ref t), (1, .int p1), (2, .int p2)] []
        have hd := cs_r hd
        refine v_aload_n X dX6_number_32 0 0 rfl rfl ?_
        refine v_getI X hd fl_X6_57 dX6_number_33 (fun v7 hd => ?_)
        refine v_istore_n (lv2 := [(3, .int v7), (0, .ref t), (1, .int p1), (2, .int p2)]) X dX6_number_36 3 rfl (by decide) rfl ?_
        refine v_aload_n X dX6_number_37 1 0 rfl rfl ?_
        refine v_callU X hd hle (ct_X6_next _ t) hu_X6_22 rfl dn_X6_next rfl ⟨by decide, by decide⟩ rfl (Nat.le_of_ble_eq_true rfl) dX6_number_38 (fun v8 h hd => ?_)
        show V K 4 h 41 [(3, .int v7), (0, .ref t), (1, .int p1), (2, .int p2)] []
        refine v_iload_n X dX6_number_41 0 3 rfl rfl ?_
        obtain ⟨rfl, hx⟩ := px_inr hd
        exact v_iret X hx ho dX6_number_42
      · have hd := cs_l hd
        obtain ⟨rfl, hh⟩ := px_inl hd
        exact vx_leave X hex ho hh
    · have hd := cs_l hd
      obtain ⟨rfl, hh⟩ := px_inl hd
      exact vx_leave X hex ho hh
  have hle := (Mo.le hd2).tr hle
  clear hd2
  refine v_icmp_ne (tgt := 13) X dX6_number_6 (by decide) (fun q => ?_) (fun q => ?_)
  · have hd := ite_f q hd
    refine v_iconst (v := 0) X dX6_number_13 (by decide) ?_
    exact v_loc [0, 1, 2] rfl (v_at (P := fun (u2 : Bool) h => V K 4 h 14 [(0, .ref t), (1, .int p1), (2, .int p2)] [.int (b2i u2), .ref t]) hd KJ)
  · have hd := ite_t q hd
    refine v_iconst (v := 1) X dX6_number_9 (by decide) ?_
    refine v_goto (tgt := 14) X dX6_number_10 (by decide) ?_
    exact v_loc [0, 1, 2] rfl (v_at (P := fun (u2 : Bool) h => V K 4 h 14 [(0, .ref t), (1, .int p1), (2, .int p2)] [.int (b2i u2), .ref t]) hd KJ)
def dkwX6_known_1 : List UInt8 := [167, 0, 4, 3, 6, 182, 0, 110, 42, 182, 0, 22, 28, 172]
abbrev dktX6_known_1 : List UInt8 := dkwX6_known_1 ++ []
def dkwX6_known_0 : List UInt8 := [42, 42, 182, 0, 124, 4, 182, 0, 110, 42, 43, 182, 0, 127, 61, 42, 28, 2, 159, 0, 7, 4]
abbrev dktX6_known_0 : List UInt8 := dkwX6_known_0 ++ dktX6_known_1
theorem dksX6_known_0 : cX6_known.data.toList.drop 0 = dktX6_known_0 := by decide +kernel
theorem dksX6_known_1 : cX6_known.data.toList.drop 22 = dktX6_known_1 := dk_seg dksX6_known_0 22 rfl rfl
theorem dX6_known_0 : decode cX6_known 0 = .ok (.aload_n 0, 1) := dk_42 (dk_at dksX6_known_0 0 rfl rfl)
theorem dX6_known_1 : decode cX6_known 1 = .ok (.aload_n 0, 1) := dk_42 (dk_at dksX6_known_0 1 rfl rfl)
theorem dX6_known_2 : decode cX6_known 2 = .ok (.invokevirtual 124, 3) := dk_182 0 124 (dk_at dksX6_known_0 2 rfl rfl)
theorem dX6_known_5 : decode cX6_known 5 = .ok (.iconst 1, 1) := dk_4 (dk_at dksX6_known_0 5 rfl rfl)
theorem dX6_known_6 : decode cX6_known 6 = .ok (.invokevirtual 110, 3) := dk_182 0 110 (dk_at dksX6_known_0 6 rfl rfl)
theorem dX6_known_9 : decode cX6_known 9 = .ok (.aload_n 0, 1) := dk_42 (dk_at dksX6_known_0 9 rfl rfl)
theorem dX6_known_10 : decode cX6_known 10 = .ok (.aload_n 1, 1) := dk_43 (dk_at dksX6_known_0 10 rfl rfl)
theorem dX6_known_11 : decode cX6_known 11 = .ok (.invokevirtual 127, 3) := dk_182 0 127 (dk_at dksX6_known_0 11 rfl rfl)
theorem dX6_known_14 : decode cX6_known 14 = .ok (.istore_n 2, 1) := dk_61 (dk_at dksX6_known_0 14 rfl rfl)
theorem dX6_known_15 : decode cX6_known 15 = .ok (.aload_n 0, 1) := dk_42 (dk_at dksX6_known_0 15 rfl rfl)
theorem dX6_known_16 : decode cX6_known 16 = .ok (.iload_n 2, 1) := dk_28 (dk_at dksX6_known_0 16 rfl rfl)
theorem dX6_known_17 : decode cX6_known 17 = .ok (.iconst (-1), 1) := dk_2 (dk_at dksX6_known_0 17 rfl rfl)
theorem dX6_known_18 : decode cX6_known 18 = .ok (.if_icmp .eq 7, 3) := dk_159 0 7 (dk_at dksX6_known_0 18 rfl rfl)
theorem dX6_known_21 : decode cX6_known 21 = .ok (.iconst 1, 1) := dk_4 (dk_at dksX6_known_0 21 rfl rfl)
theorem dX6_known_22 : decode cX6_known 22 = .ok (.goto 4, 3) := dk_167 0 4 (dk_at dksX6_known_1 0 rfl rfl)
theorem dX6_known_25 : decode cX6_known 25 = .ok (.iconst 0, 1) := dk_3 (dk_at dksX6_known_1 3 rfl rfl)
theorem dX6_known_26 : decode cX6_known 26 = .ok (.iconst 3, 1) := dk_6 (dk_at dksX6_known_1 4 rfl rfl)
theorem dX6_known_27 : decode cX6_known 27 = .ok (.invokevirtual 110, 3) := dk_182 0 110 (dk_at dksX6_known_1 5 rfl rfl)
theorem dX6_known_30 : decode cX6_known 30 = .ok (.aload_n 0, 1) := dk_42 (dk_at dksX6_known_1 8 rfl rfl)
theorem dX6_known_31 : decode cX6_known 31 = .ok (.invokevirtual 22, 3) := dk_182 0 22 (dk_at dksX6_known_1 9 rfl rfl)
theorem dX6_known_34 : decode cX6_known 34 = .ok (.iload_n 2, 1) := dk_28 (dk_at dksX6_known_1 12 rfl rfl)
theorem dX6_known_35 : decode cX6_known 35 = .ok (.ireturn, 1) := dk_172 (dk_at dksX6_known_1 13 rfl rfl)
theorem hu_X6_124 : ∀ ci ∈ [5, 6, 7], ∃ rr : vw_C, gCl[ci]? = some rr ∧ GoodIn lw_all (va_wsU "BitingDoors$Reader" 124 rr.1 "BitingDoors$Reader" ⟨"BitingDoors$Reader", "isName", "()Z"⟩ yX6_isName (ws_ yX6_isName cX6_isName 1 (some .boolean))) := by
  intro ci hc
  simp only [List.mem_cons, List.not_mem_nil, or_false] at hc
  rcases hc with rfl | rfl | rfl
  · refine ⟨_, gCl_X7, lw_app (fun w hw => ?_) (lw_meth q799)⟩
    simp only [List.mem_cons, List.not_mem_nil, or_false] at hw
    rcases hw with e | e | e | e | e
    · rw [e]; exact q1068
    · rw [e]; exact q2357
    · rw [e]; exact q2359
    · rw [e]; exact q798
    · rw [e]; exact q116
  · refine ⟨_, gCl_X8, lw_app (fun w hw => ?_) (lw_meth q799)⟩
    simp only [List.mem_cons, List.not_mem_nil, or_false] at hw
    rcases hw with e | e | e | e | e
    · rw [e]; exact q1068
    · rw [e]; exact q2357
    · rw [e]; exact q2358
    · rw [e]; exact q798
    · rw [e]; exact q116
  · refine ⟨_, gCl_X9, lw_app (fun w hw => ?_) (lw_meth q799)⟩
    simp only [List.mem_cons, List.not_mem_nil, or_false] at hw
    rcases hw with e | e | e | e | e
    · rw [e]; exact q1068
    · rw [e]; exact q2357
    · rw [e]; exact q2360
    · rw [e]; exact q798
    · rw [e]; exact q116
theorem hu_X6_127 : ∀ ci ∈ [5, 6, 7], ∃ rr : vw_C, gCl[ci]? = some rr ∧ GoodIn lw_all (va_wsU "BitingDoors$Reader" 127 rr.1 "BitingDoors$Reader" ⟨"BitingDoors$Reader", "of", "(LBitingDoors$House;)I"⟩ yX6_of (ws_ yX6_of cX6_of 3 (some .int))) := by
  intro ci hc
  simp only [List.mem_cons, List.not_mem_nil, or_false] at hc
  rcases hc with rfl | rfl | rfl
  · refine ⟨_, gCl_X7, lw_app (fun w hw => ?_) (lw_meth q807)⟩
    simp only [List.mem_cons, List.not_mem_nil, or_false] at hw
    rcases hw with e | e | e | e | e
    · rw [e]; exact q1069
    · rw [e]; exact q2361
    · rw [e]; exact q2363
    · rw [e]; exact q806
    · rw [e]; exact q116
  · refine ⟨_, gCl_X8, lw_app (fun w hw => ?_) (lw_meth q807)⟩
    simp only [List.mem_cons, List.not_mem_nil, or_false] at hw
    rcases hw with e | e | e | e | e
    · rw [e]; exact q1069
    · rw [e]; exact q2361
    · rw [e]; exact q2362
    · rw [e]; exact q806
    · rw [e]; exact q116
  · refine ⟨_, gCl_X9, lw_app (fun w hw => ?_) (lw_meth q807)⟩
    simp only [List.mem_cons, List.not_mem_nil, or_false] at hw
    rcases hw with e | e | e | e | e
    · rw [e]; exact q1069
    · rw [e]; exact q2361
    · rw [e]; exact q2364
    · rw [e]; exact q806
    · rw [e]; exact q116
theorem dn_X6_known : yX6_known.cls ≠ "java/lang/invoke/MethodHandle" ∧ yX6_known.cls ≠ "java/lang/invoke/VarHandle" ∧ (parseMethodDescriptor yX6_known.desc).map (fun d => d.parameters.length) = some 1 := by decide +kernel
noncomputable def M_X6_known (t : Nat) (p1 : Nat) : Mo (Nat ⊕ Int32) := Mo.bind (chk [5, 6, 7] t) (fun _ => Mo.bind (Mo.bind (chk [5, 6, 7] t) (fun _ => M_X6_isName t)) (fun v1 => Mo.bind (Mo.bind (chk [5, 6, 7] t) (fun _ => M_X6_must t v1 1)) (fun w => Mo.cs w (fun b => Mo.pure (Sum.inl b)) (fun v2 => Mo.bind (Mo.bind (chk [5, 6, 7] t) (fun _ => M_X6_of t p1)) (fun v3 => Mo.bind ((if v3 = (-1) then Mo.pure false else Mo.pure true : Mo (Bool))) (fun u4 => Mo.bind (Mo.bind (chk [5, 6, 7] t) (fun _ => M_X6_must t u4 3)) (fun w => Mo.cs w (fun b => Mo.pure (Sum.inl b)) (fun v5 => Mo.bind (Mo.bind (chk [5, 6, 7] t) (fun _ => M_X6_next t)) (fun v6 => Mo.pure (Sum.inr v3))))))))))
set_option maxHeartbeats 4000000 in
theorem ct_X6_known (G : gG) (t : Nat) (p1 : Nat) : gCx G yX6_known cX6_known 3 (some .int) 7 149 [.ref t, .ref p1] (M_X6_known t p1) (fun x : Int32 => some (.int x)) := by
  refine gCx.of (by decide) (Nat.le_of_ble_eq_true rfl) (fun K r hG X hex hd ho => ?_)
  subst hG
  have X : gX K cX6_known 3 "BitingDoors$Reader" "known" (some .int) 7 149 := X
  have hle : gLe (kh1 K) (kh1 K) := gLe.rf
  show V K 3 (kh0 K) 0 [(0, .ref t), (1, .ref p1)] []
  generalize kh0 K = h at hd ⊢
  unfold M_X6_known at hd
  obtain ⟨-, hd⟩ := chk_some hd
  refine v_aload_n X dX6_known_0 0 0 rfl rfl ?_
  refine v_aload_n X dX6_known_1 0 0 rfl rfl ?_
  refine v_callU X hd hle (ct_X6_isName _ t) hu_X6_124 rfl dn_X6_isName rfl ⟨by decide, by decide⟩ rfl (Nat.le_of_ble_eq_true rfl) dX6_known_2 (fun v1 h hd => ?_)
  show V K 3 h 5 [(0, .ref t), (1, .ref p1)] [.int (b2i v1), .ref t]
  refine v_iconst (v := 1) X dX6_known_5 (by decide) ?_
  refine v_callUX X hd hle (ct_X6_must _ t v1 1) hu_X6_110 rfl dn_X6_must rfl q116 q764 ⟨by decide, by decide⟩ rfl (Nat.le_of_ble_eq_true rfl) dX6_known_6 (fun v2 h hd => ?_) (fun b h hd => ?_)
  · show V K 3 h 9 [(0, .ref t), (1, .ref p1)] []
    have hd := cs_r hd
    refine v_aload_n X dX6_known_9 0 0 rfl rfl ?_
    refine v_aload_n X dX6_known_10 1 1 rfl rfl ?_
    refine v_callU X hd hle (ct_X6_of _ t p1) hu_X6_127 rfl dn_X6_of rfl ⟨by decide, by decide⟩ rfl (Nat.le_of_ble_eq_true rfl) dX6_known_11 (fun v3 h hd => ?_)
    show V K 3 h 14 [(0, .ref t), (1, .ref p1)] [.int v3]
    refine v_istore_n (lv2 := [(2, .int v3), (0, .ref t), (1, .ref p1)]) X dX6_known_14 2 rfl (by decide) rfl ?_
    refine v_aload_n X dX6_known_15 1 0 rfl rfl ?_
    refine v_iload_n X dX6_known_16 0 2 rfl rfl ?_
    refine v_iconst (v := (-1)) X dX6_known_17 (by decide) ?_
    obtain ⟨u4, h1, hd, hd2⟩ := Mo.bind_some hd
    have KJ : V K 3 h1 26 [(0, .ref t), (2, .int v3)] [.int (b2i u4), .ref t] := by
      clear hd
      have hd := hd2
      refine v_iconst (v := 3) X dX6_known_26 (by decide) ?_
      refine v_callUX X hd hle (ct_X6_must _ t u4 3) hu_X6_110 rfl dn_X6_must rfl q116 q764 ⟨by decide, by decide⟩ rfl (Nat.le_of_ble_eq_true rfl) dX6_known_27 (fun v5 h hd => ?_) (fun b h hd => ?_)
      · show V K 3 h 30 [(0, .ref t), (2, .int v3)] []
        have hd := cs_r hd
        refine v_aload_n X dX6_known_30 0 0 rfl rfl ?_
        refine v_callU X hd hle (ct_X6_next _ t) hu_X6_22 rfl dn_X6_next rfl ⟨by decide, by decide⟩ rfl (Nat.le_of_ble_eq_true rfl) dX6_known_31 (fun v6 h hd => ?_)
        show V K 3 h 34 [(0, .ref t), (2, .int v3)] []
        refine v_iload_n X dX6_known_34 1 2 rfl rfl ?_
        obtain ⟨rfl, hx⟩ := px_inr hd
        exact v_iret X hx ho dX6_known_35
      · have hd := cs_l hd
        obtain ⟨rfl, hh⟩ := px_inl hd
        exact vx_leave X hex ho hh
    have hle := (Mo.le hd2).tr hle
    clear hd2
    refine v_icmp_eq (tgt := 25) X dX6_known_18 (by decide) (fun q => ?_) (fun q => ?_)
    · have hd := ite_t q hd
      refine v_iconst (v := 0) X dX6_known_25 (by decide) ?_
      exact v_loc [1, 0] rfl (v_at (P := fun (u4 : Bool) h => V K 3 h 26 [(0, .ref t), (2, .int v3)] [.int (b2i u4), .ref t]) hd KJ)
    · have hd := ite_f q hd
      refine v_iconst (v := 1) X dX6_known_21 (by decide) ?_
      refine v_goto (tgt := 26) X dX6_known_22 (by decide) ?_
      exact v_loc [1, 0] rfl (v_at (P := fun (u4 : Bool) h => V K 3 h 26 [(0, .ref t), (2, .int v3)] [.int (b2i u4), .ref t]) hd KJ)
  · have hd := cs_l hd
    obtain ⟨rfl, hh⟩ := px_inl hd
    exact vx_leave X hex ho hh
