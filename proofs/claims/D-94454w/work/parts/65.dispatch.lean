set_option maxRecDepth 100000
noncomputable def D_goal (t p1 : Nat) : Mo Int32 := Mo.bind (clsOf t) (fun c => if c = 12 then M_X16_goal t p1 else if c = 13 then M_X17_goal t p1 else Mo.fail)
section
variable {K : gK} {cc : ByteArray} {nL : Nat} {own nm : String} {ret : Option FieldType} {fr lo : Nat} {h : gH} {pc : Nat} {lv : List (Nat × Value)} {st : List Value} {β : Type} {r : β} {h' : gH}
theorem v_dgoal (X : gX K cc nL own nm ret fr lo) {t p1 : Nat} {g : Int32 → Mo β} (hd : (Mo.bind (D_goal t p1) g).1 h = some (r, h')) (hle : gLe h' (kh1 K)) {index : Nat} (q1 : Cond.methodLink own index (⟨"BitingDoors$Turn", "goal", "(LBitingDoors$Walker;)I"⟩ : MethodName) ∈ lw_all) (hR : 3 ≤ fr ∧ 64 ≤ lo) (hW8 : (st.map fun v => v.category).sum ≤ 8) (hdg : decode cc pc = .ok (.invokevirtual index, 3))
    (kk : ∀ (b : Int32) (h1 : gH), (g b).1 h1 = some (r, h') → V K nL h1 (pc + 3) lv (((fun x : Int32 => some (.int x)) b).toList ++ st)) : V K nL h pc lv (.ref p1 :: .ref t :: st) := by
  unfold D_goal at hd
  obtain ⟨o, ho, hd⟩ := cls_some hd
  by_cases e12 : o.1 = 12
  · have hd := bite_t e12 hd
    have hw : GoodIn lw_all (va_wsU own index RX16 "BitingDoors$Turn" ⟨"BitingDoors$Turn", "goal", "(LBitingDoors$Walker;)I"⟩ yX16_goal (ws_ yX16_goal cX16_goal 2 (some .int))) := by
      refine lw_app (fun w hw => ?_) (lw_meth q1359)
      simp only [List.mem_cons, List.not_mem_nil, or_false] at hw
      rcases hw with e | e | e | e | e
      · rw [e]; exact q1
      · rw [e]; exact q1356
      · rw [e]; exact q1357
      · rw [e]; exact q1358
      · rw [e]; exact q136
    exact v_callA (n := 1) X hd hle (ct_X16_goal _ t p1) ho e12 gCl_X16 hw (List.mem_of_getElem? (i := 19) rfl) (by decide +kernel) rfl ⟨Nat.le_trans (by decide) hR.1, Nat.le_trans (by decide) hR.2⟩ rfl hW8 hdg kk
  have hd := bite_f e12 hd
  by_cases e13 : o.1 = 13
  · have hd := bite_t e13 hd
    have hw : GoodIn lw_all (va_wsU own index RX17 "BitingDoors$Turn" ⟨"BitingDoors$Turn", "goal", "(LBitingDoors$Walker;)I"⟩ yX17_goal (ws_ yX17_goal cX17_goal 2 (some .int))) := by
      refine lw_app (fun w hw => ?_) (lw_meth q1363)
      simp only [List.mem_cons, List.not_mem_nil, or_false] at hw
      rcases hw with e | e | e | e | e
      · rw [e]; exact q1
      · rw [e]; exact q1356
      · rw [e]; exact q1361
      · rw [e]; exact q1362
      · rw [e]; exact q137
    exact v_callA (n := 1) X hd hle (ct_X17_goal _ t p1) ho e13 gCl_X17 hw (List.mem_of_getElem? (i := 19) rfl) (by decide +kernel) rfl ⟨Nat.le_trans (by decide) hR.1, Nat.le_trans (by decide) hR.2⟩ rfl hW8 hdg kk
  have hd := bite_f e13 hd
  cases (Mo.bind_some hd).choose_spec.choose_spec.1
end
noncomputable def D_act (t : Nat) : Mo Int32 := Mo.bind (clsOf t) (fun c => if c = 12 then M_X16_act t else if c = 13 then M_X17_act t else Mo.fail)
section
variable {K : gK} {cc : ByteArray} {nL : Nat} {own nm : String} {ret : Option FieldType} {fr lo : Nat} {h : gH} {pc : Nat} {lv : List (Nat × Value)} {st : List Value} {β : Type} {r : β} {h' : gH}
theorem v_dact (X : gX K cc nL own nm ret fr lo) {t : Nat} {g : Int32 → Mo β} (hd : (Mo.bind (D_act t) g).1 h = some (r, h')) (hle : gLe h' (kh1 K)) {index : Nat} (q1 : Cond.methodLink own index (⟨"BitingDoors$Turn", "act", "()I"⟩ : MethodName) ∈ lw_all) (hR : 1 ≤ fr ∧ 20 ≤ lo) (hW8 : (st.map fun v => v.category).sum ≤ 8) (hdg : decode cc pc = .ok (.invokevirtual index, 3))
    (kk : ∀ (b : Int32) (h1 : gH), (g b).1 h1 = some (r, h') → V K nL h1 (pc + 3) lv (((fun x : Int32 => some (.int x)) b).toList ++ st)) : V K nL h pc lv (.ref t :: st) := by
  unfold D_act at hd
  obtain ⟨o, ho, hd⟩ := cls_some hd
  by_cases e12 : o.1 = 12
  · have hd := bite_t e12 hd
    have hw : GoodIn lw_all (va_wsU own index RX16 "BitingDoors$Turn" ⟨"BitingDoors$Turn", "act", "()I"⟩ yX16_act (ws_ yX16_act cX16_act 1 (some .int))) := by
      refine lw_app (fun w hw => ?_) (lw_meth q1373)
      simp only [List.mem_cons, List.not_mem_nil, or_false] at hw
      rcases hw with e | e | e | e | e
      · rw [e]; exact q1
      · rw [e]; exact q1370
      · rw [e]; exact q1371
      · rw [e]; exact q1372
      · rw [e]; exact q136
    exact v_callA (n := 0) X hd hle (ct_X16_act _ t) ho e12 gCl_X16 hw (List.mem_of_getElem? (i := 20) rfl) (by decide +kernel) rfl ⟨Nat.le_trans (by decide) hR.1, Nat.le_trans (by decide) hR.2⟩ rfl hW8 hdg kk
  have hd := bite_f e12 hd
  by_cases e13 : o.1 = 13
  · have hd := bite_t e13 hd
    have hw : GoodIn lw_all (va_wsU own index RX17 "BitingDoors$Turn" ⟨"BitingDoors$Turn", "act", "()I"⟩ yX17_act (ws_ yX17_act cX17_act 1 (some .int))) := by
      refine lw_app (fun w hw => ?_) (lw_meth q1376)
      simp only [List.mem_cons, List.not_mem_nil, or_false] at hw
      rcases hw with e | e | e | e | e
      · rw [e]; exact q1
      · rw [e]; exact q1370
      · rw [e]; exact q1374
      · rw [e]; exact q1375
      · rw [e]; exact q137
    exact v_callA (n := 0) X hd hle (ct_X17_act _ t) ho e13 gCl_X17 hw (List.mem_of_getElem? (i := 20) rfl) (by decide +kernel) rfl ⟨Nat.le_trans (by decide) hR.1, Nat.le_trans (by decide) hR.2⟩ rfl hW8 hdg kk
  have hd := bite_f e13 hd
  cases (Mo.bind_some hd).choose_spec.choose_spec.1
end
def dkwX15_run_4 : List UInt8 := [158, 0, 6, 21, 5, 172, 132, 4, 1, 167, 255, 212, 3, 172]
abbrev dktX15_run_4 : List UInt8 := dkwX15_run_4 ++ []
def dkwX15_run_3 : List UInt8 := [180, 0, 9, 46, 28, 160, 0, 7, 2, 167, 0, 7, 42, 182, 0, 38, 182, 0, 42, 54, 5, 21, 5]
abbrev dktX15_run_3 : List UInt8 := dkwX15_run_3 ++ dktX15_run_4
def dkwX15_run_2 : List UInt8 := [153, 0, 7, 8, 167, 0, 4, 7, 172, 3, 54, 4, 21, 4, 29, 162, 0, 44, 43, 43, 180, 0, 19, 42]
abbrev dktX15_run_2 : List UInt8 := dkwX15_run_2 ++ dktX15_run_3
def dkwX15_run_1 : List UInt8 := [154, 0, 32, 43, 180, 0, 31, 2, 160, 0, 7, 4, 167, 0, 19, 43, 42, 180, 0, 9, 182, 0, 34]
abbrev dktX15_run_1 : List UInt8 := dkwX15_run_1 ++ dktX15_run_2
def dkwX15_run_0 : List UInt8 := [42, 43, 182, 0, 15, 61, 28, 43, 180, 0, 19, 42, 180, 0, 9, 46, 100, 184, 0, 25, 62, 29]
abbrev dktX15_run_0 : List UInt8 := dkwX15_run_0 ++ dktX15_run_1
theorem dksX15_run_0 : cX15_run.data.toList.drop 0 = dktX15_run_0 := by decide +kernel
theorem dksX15_run_1 : cX15_run.data.toList.drop 22 = dktX15_run_1 := dk_seg dksX15_run_0 22 rfl rfl
theorem dksX15_run_2 : cX15_run.data.toList.drop 45 = dktX15_run_2 := dk_seg dksX15_run_1 23 rfl rfl
theorem dksX15_run_3 : cX15_run.data.toList.drop 69 = dktX15_run_3 := dk_seg dksX15_run_2 24 rfl rfl
theorem dksX15_run_4 : cX15_run.data.toList.drop 92 = dktX15_run_4 := dk_seg dksX15_run_3 23 rfl rfl
theorem dX15_run_0 : decode cX15_run 0 = .ok (.aload_n 0, 1) := dk_42 (dk_at dksX15_run_0 0 rfl rfl)
theorem dX15_run_1 : decode cX15_run 1 = .ok (.aload_n 1, 1) := dk_43 (dk_at dksX15_run_0 1 rfl rfl)
theorem dX15_run_2 : decode cX15_run 2 = .ok (.invokevirtual 15, 3) := dk_182 0 15 (dk_at dksX15_run_0 2 rfl rfl)
theorem dX15_run_5 : decode cX15_run 5 = .ok (.istore_n 2, 1) := dk_61 (dk_at dksX15_run_0 5 rfl rfl)
theorem dX15_run_6 : decode cX15_run 6 = .ok (.iload_n 2, 1) := dk_28 (dk_at dksX15_run_0 6 rfl rfl)
theorem dX15_run_7 : decode cX15_run 7 = .ok (.aload_n 1, 1) := dk_43 (dk_at dksX15_run_0 7 rfl rfl)
theorem dX15_run_8 : decode cX15_run 8 = .ok (.getfield 19, 3) := dk_180 0 19 (dk_at dksX15_run_0 8 rfl rfl)
theorem dX15_run_11 : decode cX15_run 11 = .ok (.aload_n 0, 1) := dk_42 (dk_at dksX15_run_0 11 rfl rfl)
theorem dX15_run_12 : decode cX15_run 12 = .ok (.getfield 9, 3) := dk_180 0 9 (dk_at dksX15_run_0 12 rfl rfl)
theorem dX15_run_15 : decode cX15_run 15 = .ok (.iaload, 1) := dk_46 (dk_at dksX15_run_0 15 rfl rfl)
theorem dX15_run_16 : decode cX15_run 16 = .ok (.isub, 1) := dk_100 (dk_at dksX15_run_0 16 rfl rfl)
theorem dX15_run_17 : decode cX15_run 17 = .ok (.invokestatic 25, 3) := dk_184 0 25 (dk_at dksX15_run_0 17 rfl rfl)
theorem dX15_run_20 : decode cX15_run 20 = .ok (.istore_n 3, 1) := dk_62 (dk_at dksX15_run_0 20 rfl rfl)
theorem dX15_run_21 : decode cX15_run 21 = .ok (.iload_n 3, 1) := dk_29 (dk_at dksX15_run_0 21 rfl rfl)
theorem dX15_run_22 : decode cX15_run 22 = .ok (.ifCond .ne 32, 3) := dk_154 0 32 (dk_at dksX15_run_1 0 rfl rfl)
theorem dX15_run_25 : decode cX15_run 25 = .ok (.aload_n 1, 1) := dk_43 (dk_at dksX15_run_1 3 rfl rfl)
theorem dX15_run_26 : decode cX15_run 26 = .ok (.getfield 31, 3) := dk_180 0 31 (dk_at dksX15_run_1 4 rfl rfl)
theorem dX15_run_29 : decode cX15_run 29 = .ok (.iconst (-1), 1) := dk_2 (dk_at dksX15_run_1 7 rfl rfl)
theorem dX15_run_30 : decode cX15_run 30 = .ok (.if_icmp .ne 7, 3) := dk_160 0 7 (dk_at dksX15_run_1 8 rfl rfl)
theorem dX15_run_33 : decode cX15_run 33 = .ok (.iconst 1, 1) := dk_4 (dk_at dksX15_run_1 11 rfl rfl)
theorem dX15_run_34 : decode cX15_run 34 = .ok (.goto 19, 3) := dk_167 0 19 (dk_at dksX15_run_1 12 rfl rfl)
theorem dX15_run_37 : decode cX15_run 37 = .ok (.aload_n 1, 1) := dk_43 (dk_at dksX15_run_1 15 rfl rfl)
theorem dX15_run_38 : decode cX15_run 38 = .ok (.aload_n 0, 1) := dk_42 (dk_at dksX15_run_1 16 rfl rfl)
theorem dX15_run_39 : decode cX15_run 39 = .ok (.getfield 9, 3) := dk_180 0 9 (dk_at dksX15_run_1 17 rfl rfl)
theorem dX15_run_42 : decode cX15_run 42 = .ok (.invokevirtual 34, 3) := dk_182 0 34 (dk_at dksX15_run_1 20 rfl rfl)
theorem dX15_run_45 : decode cX15_run 45 = .ok (.ifCond .eq 7, 3) := dk_153 0 7 (dk_at dksX15_run_2 0 rfl rfl)
theorem dX15_run_48 : decode cX15_run 48 = .ok (.iconst 5, 1) := dk_8 (dk_at dksX15_run_2 3 rfl rfl)
theorem dX15_run_49 : decode cX15_run 49 = .ok (.goto 4, 3) := dk_167 0 4 (dk_at dksX15_run_2 4 rfl rfl)
theorem dX15_run_52 : decode cX15_run 52 = .ok (.iconst 4, 1) := dk_7 (dk_at dksX15_run_2 7 rfl rfl)
theorem dX15_run_53 : decode cX15_run 53 = .ok (.ireturn, 1) := dk_172 (dk_at dksX15_run_2 8 rfl rfl)
theorem dX15_run_54 : decode cX15_run 54 = .ok (.iconst 0, 1) := dk_3 (dk_at dksX15_run_2 9 rfl rfl)
theorem dX15_run_55 : decode cX15_run 55 = .ok (.istore 4, 2) := dk_54 4 (dk_at dksX15_run_2 10 rfl rfl)
theorem dX15_run_57 : decode cX15_run 57 = .ok (.iload 4, 2) := dk_21 4 (dk_at dksX15_run_2 12 rfl rfl)
theorem dX15_run_59 : decode cX15_run 59 = .ok (.iload_n 3, 1) := dk_29 (dk_at dksX15_run_2 14 rfl rfl)
theorem dX15_run_60 : decode cX15_run 60 = .ok (.if_icmp .ge 44, 3) := dk_162 0 44 (dk_at dksX15_run_2 15 rfl rfl)
theorem dX15_run_63 : decode cX15_run 63 = .ok (.aload_n 1, 1) := dk_43 (dk_at dksX15_run_2 18 rfl rfl)
theorem dX15_run_64 : decode cX15_run 64 = .ok (.aload_n 1, 1) := dk_43 (dk_at dksX15_run_2 19 rfl rfl)
theorem dX15_run_65 : decode cX15_run 65 = .ok (.getfield 19, 3) := dk_180 0 19 (dk_at dksX15_run_2 20 rfl rfl)
theorem dX15_run_68 : decode cX15_run 68 = .ok (.aload_n 0, 1) := dk_42 (dk_at dksX15_run_2 23 rfl rfl)
theorem dX15_run_69 : decode cX15_run 69 = .ok (.getfield 9, 3) := dk_180 0 9 (dk_at dksX15_run_3 0 rfl rfl)
theorem dX15_run_72 : decode cX15_run 72 = .ok (.iaload, 1) := dk_46 (dk_at dksX15_run_3 3 rfl rfl)
theorem dX15_run_73 : decode cX15_run 73 = .ok (.iload_n 2, 1) := dk_28 (dk_at dksX15_run_3 4 rfl rfl)
theorem dX15_run_74 : decode cX15_run 74 = .ok (.if_icmp .ne 7, 3) := dk_160 0 7 (dk_at dksX15_run_3 5 rfl rfl)
theorem dX15_run_77 : decode cX15_run 77 = .ok (.iconst (-1), 1) := dk_2 (dk_at dksX15_run_3 8 rfl rfl)
theorem dX15_run_78 : decode cX15_run 78 = .ok (.goto 7, 3) := dk_167 0 7 (dk_at dksX15_run_3 9 rfl rfl)
theorem dX15_run_81 : decode cX15_run 81 = .ok (.aload_n 0, 1) := dk_42 (dk_at dksX15_run_3 12 rfl rfl)
theorem dX15_run_82 : decode cX15_run 82 = .ok (.invokevirtual 38, 3) := dk_182 0 38 (dk_at dksX15_run_3 13 rfl rfl)
theorem dX15_run_85 : decode cX15_run 85 = .ok (.invokevirtual 42, 3) := dk_182 0 42 (dk_at dksX15_run_3 16 rfl rfl)
theorem dX15_run_88 : decode cX15_run 88 = .ok (.istore 5, 2) := dk_54 5 (dk_at dksX15_run_3 19 rfl rfl)
theorem dX15_run_90 : decode cX15_run 90 = .ok (.iload 5, 2) := dk_21 5 (dk_at dksX15_run_3 21 rfl rfl)
theorem dX15_run_92 : decode cX15_run 92 = .ok (.ifCond .le 6, 3) := dk_158 0 6 (dk_at dksX15_run_4 0 rfl rfl)
theorem dX15_run_95 : decode cX15_run 95 = .ok (.iload 5, 2) := dk_21 5 (dk_at dksX15_run_4 3 rfl rfl)
theorem dX15_run_97 : decode cX15_run 97 = .ok (.ireturn, 1) := dk_172 (dk_at dksX15_run_4 5 rfl rfl)
theorem dX15_run_98 : decode cX15_run 98 = .ok (.iinc 4 1, 3) := dk_132 4 1 (dk_at dksX15_run_4 6 rfl rfl)
theorem dX15_run_101 : decode cX15_run 101 = .ok (.goto (-44), 3) := dk_167 255 212 (dk_at dksX15_run_4 9 rfl rfl)
theorem dX15_run_104 : decode cX15_run 104 = .ok (.iconst 0, 1) := dk_3 (dk_at dksX15_run_4 12 rfl rfl)
theorem dX15_run_105 : decode cX15_run 105 = .ok (.ireturn, 1) := dk_172 (dk_at dksX15_run_4 13 rfl rfl)
theorem fl_X15_19 : gFl "BitingDoors$Turn" 19 [2] 2 := by
  intro args s hts hN ci hc
  simp only [List.mem_cons, List.not_mem_nil, or_false] at hc
  subst hc
  exact ⟨RX3, TX3, 6, "BitingDoors$Walker", gCl_X3, in_X3, by decide, Or.inr ⟨"BitingDoors", va_Nw.use rfl (hN.1 ("BitingDoors$Turn", 19, "BitingDoors$Walker", "angle", "[I", "BitingDoors") (List.mem_of_getElem? (i := 65) rfl))⟩, fun _ h => h⟩
theorem fl_X15_31 : gFl "BitingDoors$Turn" 31 [2] 3 := by
  intro args s hts hN ci hc
  simp only [List.mem_cons, List.not_mem_nil, or_false] at hc
  subst hc
  exact ⟨RX3, TX3, 6, "BitingDoors$Walker", gCl_X3, in_X3, by decide, Or.inr ⟨"BitingDoors", va_Nw.use rfl (hN.1 ("BitingDoors$Turn", 31, "BitingDoors$Walker", "place", "I", "BitingDoors") (List.mem_of_getElem? (i := 66) rfl))⟩, fun _ h => h⟩
theorem fl_X15_9 : gFl "BitingDoors$Turn" 9 [12, 13] 0 := by
  intro args s hts hN ci hc
  simp only [List.mem_cons, List.not_mem_nil, or_false] at hc
  rcases hc with rfl | rfl
  · exact ⟨RX16, TX16, 1, "BitingDoors$Turn", gCl_X16, in_X16, by decide, Or.inl (hts _ q1077), fun _ h => h⟩
  · exact ⟨RX17, TX17, 1, "BitingDoors$Turn", gCl_X17, in_X17, by decide, Or.inl (hts _ q1077), fun _ h => h⟩
theorem dn_X15_run : yX15_run.cls ≠ "java/lang/invoke/MethodHandle" ∧ yX15_run.cls ≠ "java/lang/invoke/VarHandle" ∧ (parseMethodDescriptor yX15_run.desc).map (fun d => d.parameters.length) = some 1 := by decide +kernel
noncomputable def M_X15_run (t : Nat) (p1 : Nat) : Mo Int32 := Mo.bind (chk [12, 13] t) (fun _ => Mo.bind (D_goal t p1) (fun v1 => Mo.bind (gR [2] p1 2) (fun v2 => Mo.bind (gI [12, 13] t 0) (fun v3 => Mo.bind (aldI 0 v2 v3) (fun v4 => Mo.lv (if 0 ≤ (v1 - v4) then (v1 - v4) else 0 - (v1 - v4)) (fun v5 => if v5 = 0 then Mo.bind (gI [2] p1 3) (fun v16 => Mo.bind ((if v16 = (-1) then Mo.pure 1 else Mo.bind (gI [12, 13] t 0) (fun v18 => Mo.bind (M_X3_isAt p1 v18) (fun v19 => cond v19 (Mo.pure 5) (Mo.pure 4))) : Mo (Int32))) (fun u17 => Mo.pure u17)) else Mo.loop (S := Int32) (fun s6 => if v5 ≤ s6 then Mo.pure (Sum.inr 0) else Mo.bind (gR [2] p1 2) (fun v9 => Mo.bind (gI [12, 13] t 0) (fun v10 => Mo.bind (aldI 0 v9 v10) (fun v11 => Mo.bind ((if v11 = v1 then Mo.pure (-1) else Mo.bind (D_act t) (fun v15 => Mo.pure v15) : Mo (Int32))) (fun u12 => Mo.bind (M_X3_minute p1 u12) (fun v13 => if v13 ≤ 0 then Mo.lv (s6 + 1) (fun v14 => Mo.pure (Sum.inl v14)) else Mo.pure (Sum.inr v13))))))) 0))))))
set_option maxHeartbeats 4000000 in
theorem ct_X15_run (G : gG) (t : Nat) (p1 : Nat) : gCt G yX15_run cX15_run 6 (some .int) 6 137 [.ref t, .ref p1] (M_X15_run t p1) (fun x : Int32 => some (.int x)) := by
  refine gCt.of (by decide) (Nat.le_of_ble_eq_true rfl) (fun K r hG X hd ho => ?_)
  subst hG
  have X : gX K cX15_run 6 "BitingDoors$Turn" "run" (some .int) 6 137 := X
  have hle : gLe (kh1 K) (kh1 K) := gLe.rf
  show V K 6 (kh0 K) 0 [(0, .ref t), (1, .ref p1)] []
  generalize kh0 K = h at hd ⊢
  unfold M_X15_run at hd
  obtain ⟨-, hd⟩ := chk_some hd
  refine v_aload_n X dX15_run_0 0 0 rfl rfl ?_
  refine v_aload_n X dX15_run_1 1 1 rfl rfl ?_
  refine v_dgoal X hd hle q1354 ⟨by decide, by decide⟩ (Nat.le_of_ble_eq_true rfl) dX15_run_2 (fun v1 h hd => ?_)
  show V K 6 h 5 [(0, .ref t), (1, .ref p1)] [.int v1]
  refine v_istore_n (lv2 := [(2, .int v1), (0, .ref t), (1, .ref p1)]) X dX15_run_5 2 rfl (by decide) rfl ?_
  refine v_iload_n X dX15_run_6 0 2 rfl rfl ?_
  refine v_aload_n X dX15_run_7 2 1 rfl rfl ?_
  refine v_getR X hd fl_X15_19 dX15_run_8 (fun v2 hd => ?_)
  refine v_aload_n X dX15_run_11 1 0 rfl rfl ?_
  refine v_getI X hd fl_X15_9 dX15_run_12 (fun v3 hd => ?_)
  refine v_iald X hd dX15_run_15 (fun v4 hd => ?_)
  refine v_isub X dX15_run_16 ?_
  refine v_mabs X hd hle q1364 q1365 q127 q1366 (by decide +kernel) (Nat.le_of_ble_eq_true rfl) (by decide) (by decide) dX15_run_17 ?_
  refine v_lvI hd (fun v5 hd => ?_)
  refine v_istore_n (lv2 := [(3, .int v5), (2, .int v1), (0, .ref t), (1, .ref p1)]) X dX15_run_20 3 rfl (by decide) rfl ?_
  refine v_iload_n X dX15_run_21 0 3 rfl rfl ?_
  refine v_if_ne (tgt := 54) X dX15_run_22 (by decide) (fun q => ?_) (fun q => ?_)
  · have hd := ite_f q hd
    refine v_iconst (v := 0) X dX15_run_54 (by decide) ?_
    refine v_istore (lv2 := [(4, .int 0), (3, .int v5), (2, .int v1), (0, .ref t), (1, .ref p1)]) X dX15_run_55 (by decide) rfl ?_
    refine v_loc [3, 4, 2, 1, 0] rfl ?_
    refine loop_ind hd (fun (s6 : Int32) h => V K 6 h 57 [(0, .ref t), (1, .ref p1), (2, .int v1), (3, .int v5), (4, .int s6)] []) (fun s6 h x h2 hd hle0 ih7 ho8 => ?_)
    have hle := hle0.tr hle
    refine v_iload X dX15_run_57 4 rfl ?_
    refine v_iload_n X dX15_run_59 3 3 rfl rfl ?_
    refine v_icmp_ge (tgt := 104) X dX15_run_60 (by decide) (fun q => ?_) (fun q => ?_)
    · have hd := ite_t q hd
      refine v_iconst (v := 0) X dX15_run_104 (by decide) ?_
      have hd := lp_out hd ho8
      exact v_iret X hd ho dX15_run_105
    · have hd := ite_f q hd
      refine v_aload_n X dX15_run_63 1 1 rfl rfl ?_
      refine v_aload_n X dX15_run_64 1 1 rfl rfl ?_
      refine v_getR X hd fl_X15_19 dX15_run_65 (fun v9 hd => ?_)
      refine v_aload_n X dX15_run_68 0 0 rfl rfl ?_
      refine v_getI X hd fl_X15_9 dX15_run_69 (fun v10 hd => ?_)
      refine v_iald X hd dX15_run_72 (fun v11 hd => ?_)
      refine v_iload_n X dX15_run_73 2 2 rfl rfl ?_
      obtain ⟨u12, h1, hd, hd2⟩ := Mo.bind_some hd
      have KJ : V K 6 h1 85 [(0, .ref t), (1, .ref p1), (2, .int v1), (3, .int v5), (4, .int s6)] [.int u12, .ref p1] := by
        clear hd
        have hd := hd2
        refine v_callV X hd hle (ct_X3_minute _ p1 u12) gCl_X3 (lw_V q1377 q1298 q1299 q113 q1300) ⟨rfl, dn_X3_minute⟩ rfl ⟨by decide, by decide⟩ rfl (Nat.le_of_ble_eq_true rfl) dX15_run_85 (fun v13 h hd => ?_)
        show V K 6 h 88 [(0, .ref t), (1, .ref p1), (2, .int v1), (3, .int v5), (4, .int s6)] [.int v13]
        refine v_istore (lv2 := [(5, .int v13), (0, .ref t), (1, .ref p1), (2, .int v1), (3, .int v5), (4, .int s6)]) X dX15_run_88 (by decide) rfl ?_
        refine v_iload X dX15_run_90 0 rfl ?_
        refine v_if_le (tgt := 98) X dX15_run_92 (by decide) (fun q => ?_) (fun q => ?_)
        · have hd := ite_t q hd
          refine v_iincL (lv2 := fun v14 => [(4, .int v14), (5, .int v13), (0, .ref t), (1, .ref p1), (2, .int v1), (3, .int v5)]) X hd dX15_run_98 5 rfl (by decide : Int32.ofInt 1 = 1) (by decide) (fun v14 => rfl) (fun v14 hd => ?_)
          refine v_goto (tgt := 57) X dX15_run_101 (by decide) ?_
          exact v_loc [2, 3, 4, 5, 0] rfl (lp_in (P := fun (s6 : Int32) h => V K 6 h 57 [(0, .ref t), (1, .ref p1), (2, .int v1), (3, .int v5), (4, .int s6)] []) hd ih7)
        · have hd := ite_f q hd
          refine v_iload X dX15_run_95 0 rfl ?_
          have hd := lp_out hd ho8
          exact v_iret X hd ho dX15_run_97
      have hle := (Mo.le hd2).tr hle
      clear hd2
      refine v_icmp_ne (tgt := 81) X dX15_run_74 (by decide) (fun q => ?_) (fun q => ?_)
      · have hd := ite_f q hd
        refine v_aload_n X dX15_run_81 0 0 rfl rfl ?_
        refine v_dact X hd hle q1368 ⟨by decide, by decide⟩ (Nat.le_of_ble_eq_true rfl) dX15_run_82 (fun v15 h hd => ?_)
        show V K 6 h 85 [(0, .ref t), (1, .ref p1), (2, .int v1), (3, .int v5), (4, .int s6)] [.int v15, .ref p1]
        exact v_loc [0, 1, 2, 3, 4] rfl (v_at (P := fun (u12 : Int32) h => V K 6 h 85 [(0, .ref t), (1, .ref p1), (2, .int v1), (3, .int v5), (4, .int s6)] [.int u12, .ref p1]) hd KJ)
      · have hd := ite_t q hd
        refine v_iconst (v := (-1)) X dX15_run_77 (by decide) ?_
        refine v_goto (tgt := 85) X dX15_run_78 (by decide) ?_
        exact v_loc [0, 1, 2, 3, 4] rfl (v_at (P := fun (u12 : Int32) h => V K 6 h 85 [(0, .ref t), (1, .ref p1), (2, .int v1), (3, .int v5), (4, .int s6)] [.int u12, .ref p1]) hd KJ)
  · have hd := ite_t q hd
    refine v_aload_n X dX15_run_25 3 1 rfl rfl ?_
    refine v_getI X hd fl_X15_31 dX15_run_26 (fun v16 hd => ?_)
    refine v_iconst (v := (-1)) X dX15_run_29 (by decide) ?_
    obtain ⟨u17, h1, hd, hd2⟩ := Mo.bind_some hd
    have KJ : V K 6 h1 53 [] [.int u17] := by
      clear hd
      have hd := hd2
      exact v_iret X hd ho dX15_run_53
    have hle := (Mo.le hd2).tr hle
    clear hd2
    refine v_icmp_ne (tgt := 37) X dX15_run_30 (by decide) (fun q => ?_) (fun q => ?_)
    · have hd := ite_f q hd
      refine v_aload_n X dX15_run_37 3 1 rfl rfl ?_
      refine v_aload_n X dX15_run_38 2 0 rfl rfl ?_
      refine v_getI X hd fl_X15_9 dX15_run_39 (fun v18 hd => ?_)
      refine v_callV X hd hle (ct_X3_isAt _ p1 v18) gCl_X3 (lw_V q1367 q1313 q1314 q113 q1315) ⟨rfl, dn_X3_isAt⟩ rfl ⟨by decide, by decide⟩ rfl (Nat.le_of_ble_eq_true rfl) dX15_run_42 (fun v19 h hd => ?_)
      show V K 6 h 45 [(3, .int v5), (2, .int v1), (0, .ref t), (1, .ref p1)] [.int (b2i v19)]
      refine v_ifZ_eq (tgt := 52) X dX15_run_45 (by decide) (fun q => ?_) (fun q => ?_)
      · have hd := cnd_f q hd
        refine v_iconst (v := 4) X dX15_run_52 (by decide) ?_
        exact v_loc [] rfl (v_at (P := fun (u17 : Int32) h => V K 6 h 53 [] [.int u17]) hd KJ)
      · have hd := cnd_t q hd
        refine v_iconst (v := 5) X dX15_run_48 (by decide) ?_
        refine v_goto (tgt := 53) X dX15_run_49 (by decide) ?_
        exact v_loc [] rfl (v_at (P := fun (u17 : Int32) h => V K 6 h 53 [] [.int u17]) hd KJ)
    · have hd := ite_t q hd
      refine v_iconst (v := 1) X dX15_run_33 (by decide) ?_
      refine v_goto (tgt := 53) X dX15_run_34 (by decide) ?_
      exact v_loc [] rfl (v_at (P := fun (u17 : Int32) h => V K 6 h 53 [] [.int u17]) hd KJ)
noncomputable def D_run (t p1 : Nat) : Mo Int32 := Mo.bind (clsOf t) (fun c => if c = 11 then M_X14_run t p1 else if c = 12 then M_X15_run t p1 else if c = 13 then M_X15_run t p1 else if c = 14 then M_X18_run t p1 else Mo.fail)
section
variable {K : gK} {cc : ByteArray} {nL : Nat} {own nm : String} {ret : Option FieldType} {fr lo : Nat} {h : gH} {pc : Nat} {lv : List (Nat × Value)} {st : List Value} {β : Type} {r : β} {h' : gH}
theorem v_drun (X : gX K cc nL own nm ret fr lo) {t p1 : Nat} {g : Int32 → Mo β} (hd : (Mo.bind (D_run t p1) g).1 h = some (r, h')) (hle : gLe h' (kh1 K)) {index : Nat} (q1 : Cond.methodLink own index (⟨"BitingDoors$Act", "run", "(LBitingDoors$Walker;)I"⟩ : MethodName) ∈ lw_all) (hR : 7 ≤ fr ∧ 162 ≤ lo) (hW8 : (st.map fun v => v.category).sum ≤ 8) (hdg : decode cc pc = .ok (.invokevirtual index, 3))
    (kk : ∀ (b : Int32) (h1 : gH), (g b).1 h1 = some (r, h') → V K nL h1 (pc + 3) lv (((fun x : Int32 => some (.int x)) b).toList ++ st)) : V K nL h pc lv (.ref p1 :: .ref t :: st) := by
  unfold D_run at hd
  obtain ⟨o, ho, hd⟩ := cls_some hd
  by_cases e11 : o.1 = 11
  · have hd := bite_t e11 hd
    have hw : GoodIn lw_all (va_wsU own index RX14 "BitingDoors$Act" ⟨"BitingDoors$Act", "run", "(LBitingDoors$Walker;)I"⟩ yX14_run (ws_ yX14_run cX14_run 4 (some .int))) := by
      refine lw_app (fun w hw => ?_) (lw_meth q1349)
      simp only [List.mem_cons, List.not_mem_nil, or_false] at hw
      rcases hw with e | e | e | e | e
      · rw [e]; exact q1
      · rw [e]; exact q1346
      · rw [e]; exact q1347
      · rw [e]; exact q1348
      · rw [e]; exact q134
    exact v_callA (n := 1) X hd hle (ct_X14_run _ t p1) ho e11 gCl_X14 hw (List.mem_of_getElem? (i := 18) rfl) (by decide +kernel) rfl ⟨Nat.le_trans (by decide) hR.1, Nat.le_trans (by decide) hR.2⟩ rfl hW8 hdg kk
  have hd := bite_f e11 hd
  by_cases e12 : o.1 = 12
  · have hd := bite_t e12 hd
    have hw : GoodIn lw_all (va_wsU own index RX16 "BitingDoors$Act" ⟨"BitingDoors$Act", "run", "(LBitingDoors$Walker;)I"⟩ yX15_run (ws_ yX15_run cX15_run 6 (some .int))) := by
      refine lw_app (fun w hw => ?_) (lw_meth q1353)
      simp only [List.mem_cons, List.not_mem_nil, or_false] at hw
      rcases hw with e | e | e | e | e
      · rw [e]; exact q1
      · rw [e]; exact q1346
      · rw [e]; exact q1351
      · rw [e]; exact q1352
      · rw [e]; exact q135
    exact v_callA (n := 1) X hd hle (ct_X15_run _ t p1) ho e12 gCl_X16 hw (List.mem_of_getElem? (i := 18) rfl) (by decide +kernel) rfl ⟨Nat.le_trans (by decide) hR.1, Nat.le_trans (by decide) hR.2⟩ rfl hW8 hdg kk
  have hd := bite_f e12 hd
  by_cases e13 : o.1 = 13
  · have hd := bite_t e13 hd
    have hw : GoodIn lw_all (va_wsU own index RX17 "BitingDoors$Act" ⟨"BitingDoors$Act", "run", "(LBitingDoors$Walker;)I"⟩ yX15_run (ws_ yX15_run cX15_run 6 (some .int))) := by
      refine lw_app (fun w hw => ?_) (lw_meth q1353)
      simp only [List.mem_cons, List.not_mem_nil, or_false] at hw
      rcases hw with e | e | e | e | e
      · rw [e]; exact q1
      · rw [e]; exact q1346
      · rw [e]; exact q1382
      · rw [e]; exact q1352
      · rw [e]; exact q135
    exact v_callA (n := 1) X hd hle (ct_X15_run _ t p1) ho e13 gCl_X17 hw (List.mem_of_getElem? (i := 18) rfl) (by decide +kernel) rfl ⟨Nat.le_trans (by decide) hR.1, Nat.le_trans (by decide) hR.2⟩ rfl hW8 hdg kk
  have hd := bite_f e13 hd
  by_cases e14 : o.1 = 14
  · have hd := bite_t e14 hd
    have hw : GoodIn lw_all (va_wsU own index RX18 "BitingDoors$Act" ⟨"BitingDoors$Act", "run", "(LBitingDoors$Walker;)I"⟩ yX18_run (ws_ yX18_run cX18_run 3 (some .int))) := by
      refine lw_app (fun w hw => ?_) (lw_meth q1380)
      simp only [List.mem_cons, List.not_mem_nil, or_false] at hw
      rcases hw with e | e | e | e | e
      · rw [e]; exact q1
      · rw [e]; exact q1346
      · rw [e]; exact q1378
      · rw [e]; exact q1379
      · rw [e]; exact q138
    exact v_callA (n := 1) X hd hle (ct_X18_run _ t p1) ho e14 gCl_X18 hw (List.mem_of_getElem? (i := 18) rfl) (by decide +kernel) rfl ⟨Nat.le_trans (by decide) hR.1, Nat.le_trans (by decide) hR.2⟩ rfl hW8 hdg kk
  have hd := bite_f e14 hd
  cases (Mo.bind_some hd).choose_spec.choose_spec.1
end
def dkwX1_run_7 : List UInt8 := [181, 1, 179, 29, 158, 0, 8, 21, 4, 167, 0, 4, 2, 172]
abbrev dktX1_run_7 : List UInt8 := dkwX1_run_7 ++ []
def dkwX1_run_6 : List UInt8 := [158, 0, 11, 21, 5, 184, 1, 138, 167, 0, 4, 3, 128, 79, 132, 5, 1, 167, 255, 213, 42, 4]
abbrev dktX1_run_6 : List UInt8 := dkwX1_run_6 ++ dktX1_run_7
def dkwX1_run_5 : List UInt8 := [180, 0, 243, 180, 0, 247, 162, 0, 37, 42, 180, 0, 154, 7, 92, 46, 43, 180, 1, 33, 21, 5, 46]
abbrev dktX1_run_5 : List UInt8 := dkwX1_run_5 ++ dktX1_run_6
def dkwX1_run_4 : List UInt8 := [180, 0, 154, 6, 43, 180, 1, 166, 79, 42, 180, 0, 154, 7, 3, 79, 3, 54, 5, 21, 5, 43]
abbrev dktX1_run_4 : List UInt8 := dkwX1_run_4 ++ dktX1_run_5
def dkwX1_run_3 : List UInt8 := [180, 0, 154, 4, 43, 180, 0, 224, 28, 100, 79, 42, 180, 0, 154, 5, 43, 180, 1, 162, 79, 42]
abbrev dktX1_run_3 : List UInt8 := dkwX1_run_3 ++ dktX1_run_4
def dkwX1_run_2 : List UInt8 := [29, 154, 0, 7, 4, 167, 0, 4, 3, 96, 54, 4, 167, 255, 211, 42, 180, 0, 154, 3, 29, 79, 42]
abbrev dktX1_run_2 : List UInt8 := dkwX1_run_2 ++ dktX1_run_3
def dkwX1_run_1 : List UInt8 := [162, 0, 39, 29, 154, 0, 35, 42, 180, 0, 100, 180, 1, 169, 21, 4, 50, 43, 182, 1, 173, 62, 21, 4]
abbrev dktX1_run_1 : List UInt8 := dkwX1_run_1 ++ dktX1_run_2
def dkwX1_run_0 : List UInt8 := [43, 180, 0, 224, 61, 43, 3, 181, 1, 166, 3, 62, 3, 54, 4, 21, 4, 42, 180, 0, 100, 180, 0, 240]
abbrev dktX1_run_0 : List UInt8 := dkwX1_run_0 ++ dktX1_run_1
theorem dksX1_run_0 : cX1_run.data.toList.drop 0 = dktX1_run_0 := by decide +kernel
theorem dksX1_run_1 : cX1_run.data.toList.drop 24 = dktX1_run_1 := dk_seg dksX1_run_0 24 rfl rfl
theorem dksX1_run_2 : cX1_run.data.toList.drop 48 = dktX1_run_2 := dk_seg dksX1_run_1 24 rfl rfl
theorem dksX1_run_3 : cX1_run.data.toList.drop 71 = dktX1_run_3 := dk_seg dksX1_run_2 23 rfl rfl
theorem dksX1_run_4 : cX1_run.data.toList.drop 93 = dktX1_run_4 := dk_seg dksX1_run_3 22 rfl rfl
theorem dksX1_run_5 : cX1_run.data.toList.drop 115 = dktX1_run_5 := dk_seg dksX1_run_4 22 rfl rfl
theorem dksX1_run_6 : cX1_run.data.toList.drop 138 = dktX1_run_6 := dk_seg dksX1_run_5 23 rfl rfl
theorem dksX1_run_7 : cX1_run.data.toList.drop 160 = dktX1_run_7 := dk_seg dksX1_run_6 22 rfl rfl
theorem dX1_run_0 : decode cX1_run 0 = .ok (.aload_n 1, 1) := dk_43 (dk_at dksX1_run_0 0 rfl rfl)
theorem dX1_run_1 : decode cX1_run 1 = .ok (.getfield 224, 3) := dk_180 0 224 (dk_at dksX1_run_0 1 rfl rfl)
theorem dX1_run_4 : decode cX1_run 4 = .ok (.istore_n 2, 1) := dk_61 (dk_at dksX1_run_0 4 rfl rfl)
theorem dX1_run_5 : decode cX1_run 5 = .ok (.aload_n 1, 1) := dk_43 (dk_at dksX1_run_0 5 rfl rfl)
theorem dX1_run_6 : decode cX1_run 6 = .ok (.iconst 0, 1) := dk_3 (dk_at dksX1_run_0 6 rfl rfl)
theorem dX1_run_7 : decode cX1_run 7 = .ok (.putfield 422, 3) := dk_181 1 166 (dk_at dksX1_run_0 7 rfl rfl)
theorem dX1_run_10 : decode cX1_run 10 = .ok (.iconst 0, 1) := dk_3 (dk_at dksX1_run_0 10 rfl rfl)
theorem dX1_run_11 : decode cX1_run 11 = .ok (.istore_n 3, 1) := dk_62 (dk_at dksX1_run_0 11 rfl rfl)
theorem dX1_run_12 : decode cX1_run 12 = .ok (.iconst 0, 1) := dk_3 (dk_at dksX1_run_0 12 rfl rfl)
theorem dX1_run_13 : decode cX1_run 13 = .ok (.istore 4, 2) := dk_54 4 (dk_at dksX1_run_0 13 rfl rfl)
theorem dX1_run_15 : decode cX1_run 15 = .ok (.iload 4, 2) := dk_21 4 (dk_at dksX1_run_0 15 rfl rfl)
theorem dX1_run_17 : decode cX1_run 17 = .ok (.aload_n 0, 1) := dk_42 (dk_at dksX1_run_0 17 rfl rfl)
theorem dX1_run_18 : decode cX1_run 18 = .ok (.getfield 100, 3) := dk_180 0 100 (dk_at dksX1_run_0 18 rfl rfl)
theorem dX1_run_21 : decode cX1_run 21 = .ok (.getfield 240, 3) := dk_180 0 240 (dk_at dksX1_run_0 21 rfl rfl)
theorem dX1_run_24 : decode cX1_run 24 = .ok (.if_icmp .ge 39, 3) := dk_162 0 39 (dk_at dksX1_run_1 0 rfl rfl)
theorem dX1_run_27 : decode cX1_run 27 = .ok (.iload_n 3, 1) := dk_29 (dk_at dksX1_run_1 3 rfl rfl)
theorem dX1_run_28 : decode cX1_run 28 = .ok (.ifCond .ne 35, 3) := dk_154 0 35 (dk_at dksX1_run_1 4 rfl rfl)
theorem dX1_run_31 : decode cX1_run 31 = .ok (.aload_n 0, 1) := dk_42 (dk_at dksX1_run_1 7 rfl rfl)
theorem dX1_run_32 : decode cX1_run 32 = .ok (.getfield 100, 3) := dk_180 0 100 (dk_at dksX1_run_1 8 rfl rfl)
theorem dX1_run_35 : decode cX1_run 35 = .ok (.getfield 425, 3) := dk_180 1 169 (dk_at dksX1_run_1 11 rfl rfl)
theorem dX1_run_38 : decode cX1_run 38 = .ok (.iload 4, 2) := dk_21 4 (dk_at dksX1_run_1 14 rfl rfl)
theorem dX1_run_40 : decode cX1_run 40 = .ok (.aaload, 1) := dk_50 (dk_at dksX1_run_1 16 rfl rfl)
theorem dX1_run_41 : decode cX1_run 41 = .ok (.aload_n 1, 1) := dk_43 (dk_at dksX1_run_1 17 rfl rfl)
theorem dX1_run_42 : decode cX1_run 42 = .ok (.invokevirtual 429, 3) := dk_182 1 173 (dk_at dksX1_run_1 18 rfl rfl)
theorem dX1_run_45 : decode cX1_run 45 = .ok (.istore_n 3, 1) := dk_62 (dk_at dksX1_run_1 21 rfl rfl)
theorem dX1_run_46 : decode cX1_run 46 = .ok (.iload 4, 2) := dk_21 4 (dk_at dksX1_run_1 22 rfl rfl)
theorem dX1_run_48 : decode cX1_run 48 = .ok (.iload_n 3, 1) := dk_29 (dk_at dksX1_run_2 0 rfl rfl)
theorem dX1_run_49 : decode cX1_run 49 = .ok (.ifCond .ne 7, 3) := dk_154 0 7 (dk_at dksX1_run_2 1 rfl rfl)
theorem dX1_run_52 : decode cX1_run 52 = .ok (.iconst 1, 1) := dk_4 (dk_at dksX1_run_2 4 rfl rfl)
theorem dX1_run_53 : decode cX1_run 53 = .ok (.goto 4, 3) := dk_167 0 4 (dk_at dksX1_run_2 5 rfl rfl)
theorem dX1_run_56 : decode cX1_run 56 = .ok (.iconst 0, 1) := dk_3 (dk_at dksX1_run_2 8 rfl rfl)
theorem dX1_run_57 : decode cX1_run 57 = .ok (.iadd, 1) := dk_96 (dk_at dksX1_run_2 9 rfl rfl)
theorem dX1_run_58 : decode cX1_run 58 = .ok (.istore 4, 2) := dk_54 4 (dk_at dksX1_run_2 10 rfl rfl)
theorem dX1_run_60 : decode cX1_run 60 = .ok (.goto (-45), 3) := dk_167 255 211 (dk_at dksX1_run_2 12 rfl rfl)
theorem dX1_run_63 : decode cX1_run 63 = .ok (.aload_n 0, 1) := dk_42 (dk_at dksX1_run_2 15 rfl rfl)
theorem dX1_run_64 : decode cX1_run 64 = .ok (.getfield 154, 3) := dk_180 0 154 (dk_at dksX1_run_2 16 rfl rfl)
theorem dX1_run_67 : decode cX1_run 67 = .ok (.iconst 0, 1) := dk_3 (dk_at dksX1_run_2 19 rfl rfl)
theorem dX1_run_68 : decode cX1_run 68 = .ok (.iload_n 3, 1) := dk_29 (dk_at dksX1_run_2 20 rfl rfl)
theorem dX1_run_69 : decode cX1_run 69 = .ok (.iastore, 1) := dk_79 (dk_at dksX1_run_2 21 rfl rfl)
theorem dX1_run_70 : decode cX1_run 70 = .ok (.aload_n 0, 1) := dk_42 (dk_at dksX1_run_2 22 rfl rfl)
theorem dX1_run_71 : decode cX1_run 71 = .ok (.getfield 154, 3) := dk_180 0 154 (dk_at dksX1_run_3 0 rfl rfl)
theorem dX1_run_74 : decode cX1_run 74 = .ok (.iconst 1, 1) := dk_4 (dk_at dksX1_run_3 3 rfl rfl)
theorem dX1_run_75 : decode cX1_run 75 = .ok (.aload_n 1, 1) := dk_43 (dk_at dksX1_run_3 4 rfl rfl)
theorem dX1_run_76 : decode cX1_run 76 = .ok (.getfield 224, 3) := dk_180 0 224 (dk_at dksX1_run_3 5 rfl rfl)
theorem dX1_run_79 : decode cX1_run 79 = .ok (.iload_n 2, 1) := dk_28 (dk_at dksX1_run_3 8 rfl rfl)
theorem dX1_run_80 : decode cX1_run 80 = .ok (.isub, 1) := dk_100 (dk_at dksX1_run_3 9 rfl rfl)
theorem dX1_run_81 : decode cX1_run 81 = .ok (.iastore, 1) := dk_79 (dk_at dksX1_run_3 10 rfl rfl)
theorem dX1_run_82 : decode cX1_run 82 = .ok (.aload_n 0, 1) := dk_42 (dk_at dksX1_run_3 11 rfl rfl)
theorem dX1_run_83 : decode cX1_run 83 = .ok (.getfield 154, 3) := dk_180 0 154 (dk_at dksX1_run_3 12 rfl rfl)
theorem dX1_run_86 : decode cX1_run 86 = .ok (.iconst 2, 1) := dk_5 (dk_at dksX1_run_3 15 rfl rfl)
theorem dX1_run_87 : decode cX1_run 87 = .ok (.aload_n 1, 1) := dk_43 (dk_at dksX1_run_3 16 rfl rfl)
theorem dX1_run_88 : decode cX1_run 88 = .ok (.getfield 418, 3) := dk_180 1 162 (dk_at dksX1_run_3 17 rfl rfl)
theorem dX1_run_91 : decode cX1_run 91 = .ok (.iastore, 1) := dk_79 (dk_at dksX1_run_3 20 rfl rfl)
theorem dX1_run_92 : decode cX1_run 92 = .ok (.aload_n 0, 1) := dk_42 (dk_at dksX1_run_3 21 rfl rfl)
theorem dX1_run_93 : decode cX1_run 93 = .ok (.getfield 154, 3) := dk_180 0 154 (dk_at dksX1_run_4 0 rfl rfl)
theorem dX1_run_96 : decode cX1_run 96 = .ok (.iconst 3, 1) := dk_6 (dk_at dksX1_run_4 3 rfl rfl)
theorem dX1_run_97 : decode cX1_run 97 = .ok (.aload_n 1, 1) := dk_43 (dk_at dksX1_run_4 4 rfl rfl)
theorem dX1_run_98 : decode cX1_run 98 = .ok (.getfield 422, 3) := dk_180 1 166 (dk_at dksX1_run_4 5 rfl rfl)
theorem dX1_run_101 : decode cX1_run 101 = .ok (.iastore, 1) := dk_79 (dk_at dksX1_run_4 8 rfl rfl)
theorem dX1_run_102 : decode cX1_run 102 = .ok (.aload_n 0, 1) := dk_42 (dk_at dksX1_run_4 9 rfl rfl)
theorem dX1_run_103 : decode cX1_run 103 = .ok (.getfield 154, 3) := dk_180 0 154 (dk_at dksX1_run_4 10 rfl rfl)
theorem dX1_run_106 : decode cX1_run 106 = .ok (.iconst 4, 1) := dk_7 (dk_at dksX1_run_4 13 rfl rfl)
theorem dX1_run_107 : decode cX1_run 107 = .ok (.iconst 0, 1) := dk_3 (dk_at dksX1_run_4 14 rfl rfl)
theorem dX1_run_108 : decode cX1_run 108 = .ok (.iastore, 1) := dk_79 (dk_at dksX1_run_4 15 rfl rfl)
theorem dX1_run_109 : decode cX1_run 109 = .ok (.iconst 0, 1) := dk_3 (dk_at dksX1_run_4 16 rfl rfl)
theorem dX1_run_110 : decode cX1_run 110 = .ok (.istore 5, 2) := dk_54 5 (dk_at dksX1_run_4 17 rfl rfl)
theorem dX1_run_112 : decode cX1_run 112 = .ok (.iload 5, 2) := dk_21 5 (dk_at dksX1_run_4 19 rfl rfl)
theorem dX1_run_114 : decode cX1_run 114 = .ok (.aload_n 1, 1) := dk_43 (dk_at dksX1_run_4 21 rfl rfl)
theorem dX1_run_115 : decode cX1_run 115 = .ok (.getfield 243, 3) := dk_180 0 243 (dk_at dksX1_run_5 0 rfl rfl)
theorem dX1_run_118 : decode cX1_run 118 = .ok (.getfield 247, 3) := dk_180 0 247 (dk_at dksX1_run_5 3 rfl rfl)
theorem dX1_run_121 : decode cX1_run 121 = .ok (.if_icmp .ge 37, 3) := dk_162 0 37 (dk_at dksX1_run_5 6 rfl rfl)
theorem dX1_run_124 : decode cX1_run 124 = .ok (.aload_n 0, 1) := dk_42 (dk_at dksX1_run_5 9 rfl rfl)
theorem dX1_run_125 : decode cX1_run 125 = .ok (.getfield 154, 3) := dk_180 0 154 (dk_at dksX1_run_5 10 rfl rfl)
theorem dX1_run_128 : decode cX1_run 128 = .ok (.iconst 4, 1) := dk_7 (dk_at dksX1_run_5 13 rfl rfl)
theorem dX1_run_129 : decode cX1_run 129 = .ok (.dup2, 1) := dk_92 (dk_at dksX1_run_5 14 rfl rfl)
theorem dX1_run_130 : decode cX1_run 130 = .ok (.iaload, 1) := dk_46 (dk_at dksX1_run_5 15 rfl rfl)
theorem dX1_run_131 : decode cX1_run 131 = .ok (.aload_n 1, 1) := dk_43 (dk_at dksX1_run_5 16 rfl rfl)
theorem dX1_run_132 : decode cX1_run 132 = .ok (.getfield 289, 3) := dk_180 1 33 (dk_at dksX1_run_5 17 rfl rfl)
theorem dX1_run_135 : decode cX1_run 135 = .ok (.iload 5, 2) := dk_21 5 (dk_at dksX1_run_5 20 rfl rfl)
theorem dX1_run_137 : decode cX1_run 137 = .ok (.iaload, 1) := dk_46 (dk_at dksX1_run_5 22 rfl rfl)
theorem dX1_run_138 : decode cX1_run 138 = .ok (.ifCond .le 11, 3) := dk_158 0 11 (dk_at dksX1_run_6 0 rfl rfl)
theorem dX1_run_141 : decode cX1_run 141 = .ok (.iload 5, 2) := dk_21 5 (dk_at dksX1_run_6 3 rfl rfl)
theorem dX1_run_143 : decode cX1_run 143 = .ok (.invokestatic 394, 3) := dk_184 1 138 (dk_at dksX1_run_6 5 rfl rfl)
theorem dX1_run_146 : decode cX1_run 146 = .ok (.goto 4, 3) := dk_167 0 4 (dk_at dksX1_run_6 8 rfl rfl)
theorem dX1_run_149 : decode cX1_run 149 = .ok (.iconst 0, 1) := dk_3 (dk_at dksX1_run_6 11 rfl rfl)
theorem dX1_run_150 : decode cX1_run 150 = .ok (.ior, 1) := dk_128 (dk_at dksX1_run_6 12 rfl rfl)
theorem dX1_run_151 : decode cX1_run 151 = .ok (.iastore, 1) := dk_79 (dk_at dksX1_run_6 13 rfl rfl)
theorem dX1_run_152 : decode cX1_run 152 = .ok (.iinc 5 1, 3) := dk_132 5 1 (dk_at dksX1_run_6 14 rfl rfl)
theorem dX1_run_155 : decode cX1_run 155 = .ok (.goto (-43), 3) := dk_167 255 213 (dk_at dksX1_run_6 17 rfl rfl)
theorem dX1_run_158 : decode cX1_run 158 = .ok (.aload_n 0, 1) := dk_42 (dk_at dksX1_run_6 20 rfl rfl)
theorem dX1_run_159 : decode cX1_run 159 = .ok (.iconst 1, 1) := dk_4 (dk_at dksX1_run_6 21 rfl rfl)
theorem dX1_run_160 : decode cX1_run 160 = .ok (.putfield 435, 3) := dk_181 1 179 (dk_at dksX1_run_7 0 rfl rfl)
theorem dX1_run_163 : decode cX1_run 163 = .ok (.iload_n 3, 1) := dk_29 (dk_at dksX1_run_7 3 rfl rfl)
theorem dX1_run_164 : decode cX1_run 164 = .ok (.ifCond .le 8, 3) := dk_158 0 8 (dk_at dksX1_run_7 4 rfl rfl)
theorem dX1_run_167 : decode cX1_run 167 = .ok (.iload 4, 2) := dk_21 4 (dk_at dksX1_run_7 7 rfl rfl)
theorem dX1_run_169 : decode cX1_run 169 = .ok (.goto 4, 3) := dk_167 0 4 (dk_at dksX1_run_7 9 rfl rfl)
theorem dX1_run_172 : decode cX1_run 172 = .ok (.iconst (-1), 1) := dk_2 (dk_at dksX1_run_7 12 rfl rfl)
theorem dX1_run_173 : decode cX1_run 173 = .ok (.ireturn, 1) := dk_172 (dk_at dksX1_run_7 13 rfl rfl)
theorem fl_X1_425 : gFl "BitingDoors" 425 [4] 0 := by
  intro args s hts hN ci hc
  simp only [List.mem_cons, List.not_mem_nil, or_false] at hc
  subst hc
  exact ⟨RX5, TX5, 2, "BitingDoors$Day", gCl_X5, in_X5, by decide, Or.inr ⟨"BitingDoors", va_Nw.use rfl (hN.1 ("BitingDoors", 425, "BitingDoors$Day", "acts", "[LBitingDoors$Act;", "BitingDoors") (List.mem_of_getElem? (i := 13) rfl))⟩, fun _ h => h⟩
theorem fp_X1_435 {nm : String} : gFp "BitingDoors" nm 435 [0] 33 .boolean := by
  intro args s hts hN ci hc
  simp only [List.mem_cons, List.not_mem_nil, or_false] at hc
  subst hc
  exact ⟨RX1, TX1, 46, "BitingDoors", gCl_X1, in_X1, by decide, Or.inl ⟨rfl, Or.inl (hts _ q534)⟩, fun _ h => h, rfl, fun D tys hK => gap_X1 hts hK⟩
theorem dn_X1_run : yX1_run.cls ≠ "java/lang/invoke/MethodHandle" ∧ yX1_run.cls ≠ "java/lang/invoke/VarHandle" ∧ (parseMethodDescriptor yX1_run.desc).map (fun d => d.parameters.length) = some 1 := by decide +kernel
noncomputable def M_X1_run (t : Nat) (p1 : Nat) : Mo Int32 := Mo.bind (chk [0] t) (fun _ => Mo.bind (gI [2] p1 4) (fun v1 => Mo.bind (pF [2] p1 5 (.int 0)) (fun _ => Mo.bind (Mo.loop (S := Int32 × Int32) (E := Int32 × Int32) (fun s2 => Mo.bind (gR [0] t 11) (fun v6 => Mo.bind (gI [4] v6 1) (fun v7 => if v7 ≤ s2.2 then Mo.pure (Sum.inr (s2.1, s2.2)) else if s2.1 = 0 then Mo.bind (gR [0] t 11) (fun v8 => Mo.bind (gR [4] v8 0) (fun v9 => Mo.bind (aldR 6 v9 s2.2) (fun v10 => Mo.bind (D_run v10 p1) (fun v11 => Mo.bind ((if v11 = 0 then Mo.pure true else Mo.pure false : Mo (Bool))) (fun u12 => Mo.lv (s2.2 + (b2i u12)) (fun v13 => Mo.pure (Sum.inl (v11, v13)))))))) else Mo.pure (Sum.inr (s2.1, s2.2))))) (0, 0)) (fun e5 => Mo.bind (gR [0] t 32) (fun v14 => Mo.bind (astI 0 v14 0 e5.1) (fun _ => Mo.bind (gR [0] t 32) (fun v15 => Mo.bind (gI [2] p1 4) (fun v16 => Mo.bind (astI 0 v15 1 (v16 - v1)) (fun _ => Mo.bind (gR [0] t 32) (fun v17 => Mo.bind (gI [2] p1 3) (fun v18 => Mo.bind (astI 0 v17 2 v18) (fun _ => Mo.bind (gR [0] t 32) (fun v19 => Mo.bind (gI [2] p1 5) (fun v20 => Mo.bind (astI 0 v19 3 v20) (fun _ => Mo.bind (gR [0] t 32) (fun v21 => Mo.bind (astI 0 v21 4 0) (fun _ => Mo.bind (Mo.loop (S := Int32) (E := Unit) (fun s22 => Mo.bind (gR [2] p1 0) (fun v26 => Mo.bind (gI [3] v26 6) (fun v27 => if v27 ≤ s22 then Mo.pure (Sum.inr ()) else Mo.bind (gR [0] t 32) (fun v28 => Mo.bind (aldI 0 v28 4) (fun v29 => Mo.bind (gR [2] p1 2) (fun v30 => Mo.bind (aldI 0 v30 s22) (fun v31 => Mo.bind ((if v31 ≤ 0 then Mo.pure 0 else Mo.bind (M_X1_one s22) (fun v34 => Mo.pure v34) : Mo (Int32))) (fun u32 => Mo.bind (astI 0 v28 4 (v29 ||| u32)) (fun _ => Mo.lv (s22 + 1) (fun v33 => Mo.pure (Sum.inl v33))))))))))) 0) (fun e25 => Mo.bind (pF [0] t 33 (.int (b2i true))) (fun _ => Mo.bind ((if e5.1 ≤ 0 then Mo.pure (-1) else Mo.pure e5.2 : Mo (Int32))) (fun u35 => Mo.pure u35))))))))))))))))))))
set_option maxHeartbeats 4000000 in
theorem ct_X1_run (G : gG) (t : Nat) (p1 : Nat) : gCt G yX1_run cX1_run 6 (some .int) 7 162 [.ref t, .ref p1] (M_X1_run t p1) (fun x : Int32 => some (.int x)) := by
  refine gCt.of (by decide) (Nat.le_of_ble_eq_true rfl) (fun K r hG X hd ho => ?_)
  subst hG
  have X : gX K cX1_run 6 "BitingDoors" "run" (some .int) 7 162 := X
  have hle : gLe (kh1 K) (kh1 K) := gLe.rf
  show V K 6 (kh0 K) 0 [(0, .ref t), (1, .ref p1)] []
  generalize kh0 K = h at hd ⊢
  unfold M_X1_run at hd
  obtain ⟨-, hd⟩ := chk_some hd
  refine v_aload_n X dX1_run_0 1 1 rfl rfl ?_
  refine v_getI X hd fl_X1_224 dX1_run_1 (fun v1 hd => ?_)
  refine v_istore_n (lv2 := [(2, .int v1), (0, .ref t), (1, .ref p1)]) X dX1_run_4 2 rfl (by decide) rfl ?_
  refine v_aload_n X dX1_run_5 2 1 rfl rfl ?_
  refine v_iconst (v := 0) X dX1_run_6 (by decide) ?_
  refine v_put (v := .int 0) X hd fp_X1_422 rfl rfl dX1_run_7 (fun h hd => ?_)
  refine v_iconst (v := 0) X dX1_run_10 (by decide) ?_
  refine v_istore_n (lv2 := [(3, .int 0), (2, .int v1), (0, .ref t), (1, .ref p1)]) X dX1_run_11 3 rfl (by decide) rfl ?_
  refine v_iconst (v := 0) X dX1_run_12 (by decide) ?_
  refine v_istore (lv2 := [(4, .int 0), (3, .int 0), (2, .int v1), (0, .ref t), (1, .ref p1)]) X dX1_run_13 (by decide) rfl ?_
  obtain ⟨e5, h1, hd, hd2⟩ := Mo.bind_some hd
  have KX : V K 6 h1 63 [(0, .ref t), (1, .ref p1), (2, .int v1), (3, .int e5.1), (4, .int e5.2)] [] := by
    clear hd
    have hd := hd2
    refine v_aload_n X dX1_run_63 0 0 rfl rfl ?_
    refine v_getR X hd fl_X1_154 dX1_run_64 (fun v14 hd => ?_)
    refine v_iconst (v := 0) X dX1_run_67 (by decide) ?_
    refine v_iload_n X dX1_run_68 3 3 rfl rfl ?_
    refine v_iast X hd dX1_run_69 (fun h hd => ?_)
    refine v_aload_n X dX1_run_70 0 0 rfl rfl ?_
    refine v_getR X hd fl_X1_154 dX1_run_71 (fun v15 hd => ?_)
    refine v_iconst (v := 1) X dX1_run_74 (by decide) ?_
    refine v_aload_n X dX1_run_75 1 1 rfl rfl ?_
    refine v_getI X hd fl_X1_224 dX1_run_76 (fun v16 hd => ?_)
    refine v_iload_n X dX1_run_79 2 2 rfl rfl ?_
    refine v_isub X dX1_run_80 ?_
    refine v_iast X hd dX1_run_81 (fun h hd => ?_)
    refine v_aload_n X dX1_run_82 0 0 rfl rfl ?_
    refine v_getR X hd fl_X1_154 dX1_run_83 (fun v17 hd => ?_)
    refine v_iconst (v := 2) X dX1_run_86 (by decide) ?_
    refine v_aload_n X dX1_run_87 1 1 rfl rfl ?_
    refine v_getI X hd fl_X1_418 dX1_run_88 (fun v18 hd => ?_)
    refine v_iast X hd dX1_run_91 (fun h hd => ?_)
    refine v_aload_n X dX1_run_92 0 0 rfl rfl ?_
    refine v_getR X hd fl_X1_154 dX1_run_93 (fun v19 hd => ?_)
    refine v_iconst (v := 3) X dX1_run_96 (by decide) ?_
    refine v_aload_n X dX1_run_97 1 1 rfl rfl ?_
    refine v_getI X hd fl_X1_422 dX1_run_98 (fun v20 hd => ?_)
    refine v_iast X hd dX1_run_101 (fun h hd => ?_)
    refine v_aload_n X dX1_run_102 0 0 rfl rfl ?_
    refine v_getR X hd fl_X1_154 dX1_run_103 (fun v21 hd => ?_)
    refine v_iconst (v := 4) X dX1_run_106 (by decide) ?_
    refine v_iconst (v := 0) X dX1_run_107 (by decide) ?_
    refine v_iast X hd dX1_run_108 (fun h hd => ?_)
    refine v_iconst (v := 0) X dX1_run_109 (by decide) ?_
    refine v_istore (lv2 := [(5, .int 0), (0, .ref t), (1, .ref p1), (2, .int v1), (3, .int e5.1), (4, .int e5.2)]) X dX1_run_110 (by decide) rfl ?_
    obtain ⟨e25, h1, hd, hd2⟩ := Mo.bind_some hd
    have KX : V K 6 h1 158 [(0, .ref t), (3, .int e5.1), (4, .int e5.2)] [] := by
      clear hd
      have hd := hd2
      refine v_aload_n X dX1_run_158 0 0 rfl rfl ?_
      refine v_iconst (v := 1) X dX1_run_159 (by decide) ?_
      refine v_put (v := .int (b2i true)) X hd fp_X1_435 (b2i_nar _) (fits_b2i _) dX1_run_160 (fun h hd => ?_)
      refine v_iload_n X dX1_run_163 1 3 rfl rfl ?_
      obtain ⟨u35, h1, hd, hd2⟩ := Mo.bind_some hd
      have KJ : V K 6 h1 173 [] [.int u35] := by
        clear hd
        have hd := hd2
        exact v_iret X hd ho dX1_run_173
      have hle := (Mo.le hd2).tr hle
      clear hd2
      refine v_if_le (tgt := 172) X dX1_run_164 (by decide) (fun q => ?_) (fun q => ?_)
      · have hd := ite_t q hd
        refine v_iconst (v := (-1)) X dX1_run_172 (by decide) ?_
        exact v_loc [] rfl (v_at (P := fun (u35 : Int32) h => V K 6 h 173 [] [.int u35]) hd KJ)
      · have hd := ite_f q hd
        refine v_iload X dX1_run_167 2 rfl ?_
        refine v_goto (tgt := 173) X dX1_run_169 (by decide) ?_
        exact v_loc [] rfl (v_at (P := fun (u35 : Int32) h => V K 6 h 173 [] [.int u35]) hd KJ)
    have hle := (Mo.le hd2).tr hle
    clear hd2
    refine v_loc [1, 2, 4, 5, 0] rfl ?_
    refine loop_ind hd (fun (s22 : Int32) h => V K 6 h 112 [(0, .ref t), (1, .ref p1), (3, .int e5.1), (4, .int e5.2), (5, .int s22)] []) (fun s22 h x h2 hd hle0 ih23 ho24 => ?_)
    have hle := hle0.tr hle
    refine v_iload X dX1_run_112 4 rfl ?_
    refine v_aload_n X dX1_run_114 1 1 rfl rfl ?_
    refine v_getR X hd fl_X1_243 dX1_run_115 (fun v26 hd => ?_)
    refine v_getI X hd fl_X1_247 dX1_run_118 (fun v27 hd => ?_)
    refine v_icmp_ge (tgt := 158) X dX1_run_121 (by decide) (fun q => ?_) (fun q => ?_)
    · have hd := ite_t q hd
      exact v_loc [0, 2, 3] rfl (v_at (P := fun (e25 : Unit) h => V K 6 h 158 [(0, .ref t), (3, .int e5.1), (4, .int e5.2)] []) (lp_out hd ho24) KX)
    · have hd := ite_f q hd
      refine v_aload_n X dX1_run_124 0 0 rfl rfl ?_
      refine v_getR X hd fl_X1_154 dX1_run_125 (fun v28 hd => ?_)
      refine v_iconst (v := 4) X dX1_run_128 (by decide) ?_
      refine v_dup2 X dX1_run_129 rfl rfl ?_
      refine v_iald X hd dX1_run_130 (fun v29 hd => ?_)
      refine v_aload_n X dX1_run_131 1 1 rfl rfl ?_
      refine v_getR X hd fl_X1_289 dX1_run_132 (fun v30 hd => ?_)
      refine v_iload X dX1_run_135 4 rfl ?_
      refine v_iald X hd dX1_run_137 (fun v31 hd => ?_)
      obtain ⟨u32, h1, hd, hd2⟩ := Mo.bind_some hd
      have KJ : V K 6 h1 150 [(0, .ref t), (1, .ref p1), (3, .int e5.1), (4, .int e5.2), (5, .int s22)] [.int u32, .int v29, .int 4, .ref v28] := by
        clear hd
        have hd := hd2
        refine v_ior X dX1_run_150 ?_
        refine v_iast X hd dX1_run_151 (fun h hd => ?_)
        refine v_iincL (lv2 := fun v33 => [(5, .int v33), (0, .ref t), (1, .ref p1), (3, .int e5.1), (4, .int e5.2)]) X hd dX1_run_152 4 rfl (by decide : Int32.ofInt 1 = 1) (by decide) (fun v33 => rfl) (fun v33 hd => ?_)
        refine v_goto (tgt := 112) X dX1_run_155 (by decide) ?_
        exact v_loc [1, 2, 3, 4, 0] rfl (lp_in (P := fun (s22 : Int32) h => V K 6 h 112 [(0, .ref t), (1, .ref p1), (3, .int e5.1), (4, .int e5.2), (5, .int s22)] []) hd ih23)
      have hle := (Mo.le hd2).tr hle
      clear hd2
      refine v_if_le (tgt := 149) X dX1_run_138 (by decide) (fun q => ?_) (fun q => ?_)
      · have hd := ite_t q hd
        refine v_iconst (v := 0) X dX1_run_149 (by decide) ?_
        exact v_loc [0, 1, 2, 3, 4] rfl (v_at (P := fun (u32 : Int32) h => V K 6 h 150 [(0, .ref t), (1, .ref p1), (3, .int e5.1), (4, .int e5.2), (5, .int s22)] [.int u32, .int v29, .int 4, .ref v28]) hd KJ)
      · have hd := ite_f q hd
        refine v_iload X dX1_run_141 4 rfl ?_
        refine v_callS X hd hle (ct_X1_one _ s22) (lw_S q1240 q895 q109 q896) dn_X1_one rfl ⟨by decide, by decide⟩ rfl (Nat.le_of_ble_eq_true rfl) dX1_run_143 (fun v34 h hd => ?_)
        show V K 6 h 146 [(0, .ref t), (1, .ref p1), (3, .int e5.1), (4, .int e5.2), (5, .int s22)] [.int v34, .int v29, .int 4, .ref v28]
        refine v_goto (tgt := 150) X dX1_run_146 (by decide) ?_
        exact v_loc [0, 1, 2, 3, 4] rfl (v_at (P := fun (u32 : Int32) h => V K 6 h 150 [(0, .ref t), (1, .ref p1), (3, .int e5.1), (4, .int e5.2), (5, .int s22)] [.int u32, .int v29, .int 4, .ref v28]) hd KJ)
  have hle := (Mo.le hd2).tr hle
  clear hd2
  refine v_loc [3, 4, 2, 1, 0] rfl ?_
  refine loop_ind hd (fun (s2 : Int32 × Int32) h => V K 6 h 15 [(0, .ref t), (1, .ref p1), (2, .int v1), (3, .int s2.1), (4, .int s2.2)] []) (fun s2 h x h2 hd hle0 ih3 ho4 => ?_)
  have hle := hle0.tr hle
  refine v_iload X dX1_run_15 4 rfl ?_
  refine v_aload_n X dX1_run_17 0 0 rfl rfl ?_
  refine v_getR X hd fl_X1_100 dX1_run_18 (fun v6 hd => ?_)
  refine v_getI X hd fl_X1_240 dX1_run_21 (fun v7 hd => ?_)
  refine v_icmp_ge (tgt := 63) X dX1_run_24 (by decide) (fun q => ?_) (fun q => ?_)
  · have hd := ite_t q hd
    exact v_loc [0, 1, 2, 3, 4] rfl (v_at (P := fun (e5 : Int32 × Int32) h => V K 6 h 63 [(0, .ref t), (1, .ref p1), (2, .int v1), (3, .int e5.1), (4, .int e5.2)] []) (lp_out hd ho4) KX)
  · have hd := ite_f q hd
    refine v_iload_n X dX1_run_27 3 3 rfl rfl ?_
    refine v_if_ne (tgt := 63) X dX1_run_28 (by decide) (fun q => ?_) (fun q => ?_)
    · have hd := ite_f q hd
      exact v_loc [0, 1, 2, 3, 4] rfl (v_at (P := fun (e5 : Int32 × Int32) h => V K 6 h 63 [(0, .ref t), (1, .ref p1), (2, .int v1), (3, .int e5.1), (4, .int e5.2)] []) (lp_out hd ho4) KX)
    · have hd := ite_t q hd
      refine v_aload_n X dX1_run_31 0 0 rfl rfl ?_
      refine v_getR X hd fl_X1_100 dX1_run_32 (fun v8 hd => ?_)
      refine v_getR X hd fl_X1_425 dX1_run_35 (fun v9 hd => ?_)
      refine v_iload X dX1_run_38 4 rfl ?_
      refine v_aldR X hd 6 rfl (by decide) (by decide) dX1_run_40 (fun v10 hd => ?_)
      refine v_aload_n X dX1_run_41 1 1 rfl rfl ?_
      refine v_drun X hd hle q1344 ⟨by decide, by decide⟩ (Nat.le_of_ble_eq_true rfl) dX1_run_42 (fun v11 h hd => ?_)
      show V K 6 h 45 [(0, .ref t), (1, .ref p1), (2, .int v1), (3, .int s2.1), (4, .int s2.2)] [.int v11]
      refine v_istore_n (lv2 := [(3, .int v11), (0, .ref t), (1, .ref p1), (2, .int v1), (4, .int s2.2)]) X dX1_run_45 3 rfl (by decide) rfl ?_
      refine v_iload X dX1_run_46 4 rfl ?_
      refine v_iload_n X dX1_run_48 0 3 rfl rfl ?_
      obtain ⟨u12, h1, hd, hd2⟩ := Mo.bind_some hd
      have KJ : V K 6 h1 57 [(0, .ref t), (1, .ref p1), (2, .int v1), (3, .int v11)] [.int (b2i u12), .int s2.2] := by
        clear hd
        have hd := hd2
        refine v_iadd X dX1_run_57 ?_
        refine v_lvI hd (fun v13 hd => ?_)
        refine v_istore (lv2 := [(4, .int v13), (0, .ref t), (1, .ref p1), (2, .int v1), (3, .int v11)]) X dX1_run_58 (by decide) rfl ?_
        refine v_goto (tgt := 15) X dX1_run_60 (by decide) ?_
        exact v_loc [1, 2, 3, 4, 0] rfl (lp_in (P := fun (s2 : Int32 × Int32) h => V K 6 h 15 [(0, .ref t), (1, .ref p1), (2, .int v1), (3, .int s2.1), (4, .int s2.2)] []) hd ih3)
      have hle := (Mo.le hd2).tr hle
      clear hd2
      refine v_if_ne (tgt := 56) X dX1_run_49 (by decide) (fun q => ?_) (fun q => ?_)
      · have hd := ite_f q hd
        refine v_iconst (v := 0) X dX1_run_56 (by decide) ?_
        exact v_loc [1, 2, 3, 0] rfl (v_at (P := fun (u12 : Bool) h => V K 6 h 57 [(0, .ref t), (1, .ref p1), (2, .int v1), (3, .int v11)] [.int (b2i u12), .int s2.2]) hd KJ)
      · have hd := ite_t q hd
        refine v_iconst (v := 1) X dX1_run_52 (by decide) ?_
        refine v_goto (tgt := 57) X dX1_run_53 (by decide) ?_
        exact v_loc [1, 2, 3, 0] rfl (v_at (P := fun (u12 : Bool) h => V K 6 h 57 [(0, .ref t), (1, .ref p1), (2, .int v1), (3, .int v11)] [.int (b2i u12), .int s2.2]) hd KJ)
def dkwX1_judge_0 : List UInt8 := [42, 180, 0, 94, 42, 180, 0, 90, 182, 1, 182, 42, 42, 180, 0, 94, 182, 1, 186, 172]
abbrev dktX1_judge_0 : List UInt8 := dkwX1_judge_0 ++ []
theorem dksX1_judge_0 : cX1_judge.data.toList.drop 0 = dktX1_judge_0 := by decide +kernel
theorem dX1_judge_0 : decode cX1_judge 0 = .ok (.aload_n 0, 1) := dk_42 (dk_at dksX1_judge_0 0 rfl rfl)
theorem dX1_judge_1 : decode cX1_judge 1 = .ok (.getfield 94, 3) := dk_180 0 94 (dk_at dksX1_judge_0 1 rfl rfl)
theorem dX1_judge_4 : decode cX1_judge 4 = .ok (.aload_n 0, 1) := dk_42 (dk_at dksX1_judge_0 4 rfl rfl)
theorem dX1_judge_5 : decode cX1_judge 5 = .ok (.getfield 90, 3) := dk_180 0 90 (dk_at dksX1_judge_0 5 rfl rfl)
theorem dX1_judge_8 : decode cX1_judge 8 = .ok (.invokevirtual 438, 3) := dk_182 1 182 (dk_at dksX1_judge_0 8 rfl rfl)
theorem dX1_judge_11 : decode cX1_judge 11 = .ok (.aload_n 0, 1) := dk_42 (dk_at dksX1_judge_0 11 rfl rfl)
theorem dX1_judge_12 : decode cX1_judge 12 = .ok (.aload_n 0, 1) := dk_42 (dk_at dksX1_judge_0 12 rfl rfl)
theorem dX1_judge_13 : decode cX1_judge 13 = .ok (.getfield 94, 3) := dk_180 0 94 (dk_at dksX1_judge_0 13 rfl rfl)
theorem dX1_judge_16 : decode cX1_judge 16 = .ok (.invokevirtual 442, 3) := dk_182 1 186 (dk_at dksX1_judge_0 16 rfl rfl)
theorem dX1_judge_19 : decode cX1_judge 19 = .ok (.ireturn, 1) := dk_172 (dk_at dksX1_judge_0 19 rfl rfl)
theorem dn_X1_judge : yX1_judge.cls ≠ "java/lang/invoke/MethodHandle" ∧ yX1_judge.cls ≠ "java/lang/invoke/VarHandle" ∧ (parseMethodDescriptor yX1_judge.desc).map (fun d => d.parameters.length) = some 0 := by decide +kernel
noncomputable def M_X1_judge (t : Nat) : Mo Int32 := Mo.bind (chk [0] t) (fun _ => Mo.bind (gR [0] t 10) (fun v1 => Mo.bind (gR [0] t 9) (fun v2 => Mo.bind (M_X3_be v1 v2) (fun v3 => Mo.bind (gR [0] t 10) (fun v4 => Mo.bind (M_X1_run t v4) (fun v5 => Mo.pure v5))))))
set_option maxHeartbeats 4000000 in
theorem ct_X1_judge (G : gG) (t : Nat) : gCt G yX1_judge cX1_judge 1 (some .int) 8 187 [.ref t] (M_X1_judge t) (fun x : Int32 => some (.int x)) := by
  refine gCt.of (by decide) (Nat.le_of_ble_eq_true rfl) (fun K r hG X hd ho => ?_)
  subst hG
  have X : gX K cX1_judge 1 "BitingDoors" "judge" (some .int) 8 187 := X
  have hle : gLe (kh1 K) (kh1 K) := gLe.rf
  show V K 1 (kh0 K) 0 [(0, .ref t)] []
  generalize kh0 K = h at hd ⊢
  unfold M_X1_judge at hd
  obtain ⟨-, hd⟩ := chk_some hd
  refine v_aload_n X dX1_judge_0 0 0 rfl rfl ?_
  refine v_getR X hd fl_X1_94 dX1_judge_1 (fun v1 hd => ?_)
  refine v_aload_n X dX1_judge_4 0 0 rfl rfl ?_
  refine v_getR X hd fl_X1_90 dX1_judge_5 (fun v2 hd => ?_)
  refine v_callV X hd hle (ct_X3_be _ v1 v2) gCl_X3 (lw_V q1335 q1336 q1337 q113 q1338) ⟨rfl, dn_X3_be⟩ rfl ⟨by decide, by decide⟩ rfl (Nat.le_of_ble_eq_true rfl) dX1_judge_8 (fun v3 h hd => ?_)
  show V K 1 h 11 [(0, .ref t)] []
  refine v_aload_n X dX1_judge_11 0 0 rfl rfl ?_
  refine v_aload_n X dX1_judge_12 0 0 rfl rfl ?_
  refine v_getR X hd fl_X1_94 dX1_judge_13 (fun v4 hd => ?_)
  refine v_callV X hd hle (ct_X1_run _ t v4) gCl_X1 (lw_V q1340 q1342 qs26 q109 q1343) ⟨rfl, dn_X1_run⟩ rfl ⟨by decide, by decide⟩ rfl (Nat.le_of_ble_eq_true rfl) dX1_judge_16 (fun v5 h hd => ?_)
  show V K 1 h 19 [(0, .ref t)] [.int v5]
  exact v_iret X hd ho dX1_judge_19
def dkwX1_live_0 : List UInt8 := [42, 42, 180, 0, 90, 182, 1, 186, 172]
abbrev dktX1_live_0 : List UInt8 := dkwX1_live_0 ++ []
theorem dksX1_live_0 : cX1_live.data.toList.drop 0 = dktX1_live_0 := by decide +kernel
theorem dX1_live_0 : decode cX1_live 0 = .ok (.aload_n 0, 1) := dk_42 (dk_at dksX1_live_0 0 rfl rfl)
theorem dX1_live_1 : decode cX1_live 1 = .ok (.aload_n 0, 1) := dk_42 (dk_at dksX1_live_0 1 rfl rfl)
theorem dX1_live_2 : decode cX1_live 2 = .ok (.getfield 90, 3) := dk_180 0 90 (dk_at dksX1_live_0 2 rfl rfl)
theorem dX1_live_5 : decode cX1_live 5 = .ok (.invokevirtual 442, 3) := dk_182 1 186 (dk_at dksX1_live_0 5 rfl rfl)
theorem dX1_live_8 : decode cX1_live 8 = .ok (.ireturn, 1) := dk_172 (dk_at dksX1_live_0 8 rfl rfl)
theorem dn_X1_live : yX1_live.cls ≠ "java/lang/invoke/MethodHandle" ∧ yX1_live.cls ≠ "java/lang/invoke/VarHandle" ∧ (parseMethodDescriptor yX1_live.desc).map (fun d => d.parameters.length) = some 0 := by decide +kernel
noncomputable def M_X1_live (t : Nat) : Mo Int32 := Mo.bind (chk [0] t) (fun _ => Mo.bind (gR [0] t 9) (fun v1 => Mo.bind (M_X1_run t v1) (fun v2 => Mo.pure v2)))
set_option maxHeartbeats 4000000 in
theorem ct_X1_live (G : gG) (t : Nat) : gCt G yX1_live cX1_live 1 (some .int) 8 187 [.ref t] (M_X1_live t) (fun x : Int32 => some (.int x)) := by
  refine gCt.of (by decide) (Nat.le_of_ble_eq_true rfl) (fun K r hG X hd ho => ?_)
  subst hG
  have X : gX K cX1_live 1 "BitingDoors" "live" (some .int) 8 187 := X
  have hle : gLe (kh1 K) (kh1 K) := gLe.rf
  show V K 1 (kh0 K) 0 [(0, .ref t)] []
  generalize kh0 K = h at hd ⊢
  unfold M_X1_live at hd
  obtain ⟨-, hd⟩ := chk_some hd
  refine v_aload_n X dX1_live_0 0 0 rfl rfl ?_
  refine v_aload_n X dX1_live_1 0 0 rfl rfl ?_
  refine v_getR X hd fl_X1_90 dX1_live_2 (fun v1 hd => ?_)
  refine v_callV X hd hle (ct_X1_run _ t v1) gCl_X1 (lw_V q1340 q1342 qs26 q109 q1343) ⟨rfl, dn_X1_run⟩ rfl ⟨by decide, by decide⟩ rfl (Nat.le_of_ble_eq_true rfl) dX1_live_5 (fun v2 h hd => ?_)
  show V K 1 h 8 [(0, .ref t)] [.int v2]
  exact v_iret X hd ho dX1_live_8
