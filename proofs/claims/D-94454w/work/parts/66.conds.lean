set_option maxRecDepth 100000
def dkwX20_is_0 : List UInt8 := [42, 180, 0, 7, 43, 28, 182, 0, 13, 154, 0, 7, 4, 167, 0, 4, 3, 172]
abbrev dktX20_is_0 : List UInt8 := dkwX20_is_0 ++ []
theorem dksX20_is_0 : cX20_is.data.toList.drop 0 = dktX20_is_0 := by decide +kernel
theorem dX20_is_0 : decode cX20_is 0 = .ok (.aload_n 0, 1) := dk_42 (dk_at dksX20_is_0 0 rfl rfl)
theorem dX20_is_1 : decode cX20_is 1 = .ok (.getfield 7, 3) := dk_180 0 7 (dk_at dksX20_is_0 1 rfl rfl)
theorem dX20_is_4 : decode cX20_is 4 = .ok (.aload_n 1, 1) := dk_43 (dk_at dksX20_is_0 4 rfl rfl)
theorem dX20_is_5 : decode cX20_is 5 = .ok (.iload_n 2, 1) := dk_28 (dk_at dksX20_is_0 5 rfl rfl)
theorem dX20_is_6 : decode cX20_is 6 = .ok (.invokevirtual 13, 3) := dk_182 0 13 (dk_at dksX20_is_0 6 rfl rfl)
theorem dX20_is_9 : decode cX20_is 9 = .ok (.ifCond .ne 7, 3) := dk_154 0 7 (dk_at dksX20_is_0 9 rfl rfl)
theorem dX20_is_12 : decode cX20_is 12 = .ok (.iconst 1, 1) := dk_4 (dk_at dksX20_is_0 12 rfl rfl)
theorem dX20_is_13 : decode cX20_is 13 = .ok (.goto 4, 3) := dk_167 0 4 (dk_at dksX20_is_0 13 rfl rfl)
theorem dX20_is_16 : decode cX20_is 16 = .ok (.iconst 0, 1) := dk_3 (dk_at dksX20_is_0 16 rfl rfl)
theorem dX20_is_17 : decode cX20_is 17 = .ok (.ireturn, 1) := dk_172 (dk_at dksX20_is_0 17 rfl rfl)
theorem fl_X20_7 : gFl "BitingDoors$Not" 7 [15] 0 := by
  intro args s hts hN ci hc
  simp only [List.mem_cons, List.not_mem_nil, or_false] at hc
  subst hc
  exact ⟨RX20, TX20, 1, "BitingDoors$Not", gCl_X20, in_X20, by decide, Or.inl (hts _ q1482), fun _ h => h⟩
noncomputable def B_X20_is (Rc : Nat → Nat → Int32 → Mo Bool) (t p1 : Nat) (p2 : Int32) : Mo Bool := Mo.bind (gR [15] t 0) (fun v1 => Mo.bind (Rc v1 p1 p2) (fun v2 => Mo.bind ((cond v2 (Mo.pure false) (Mo.pure true) : Mo (Bool))) (fun u3 => Mo.pure u3)))
def dkwX24_is_1 : List UInt8 := [4, 167, 0, 4, 3, 172]
abbrev dktX24_is_1 : List UInt8 := dkwX24_is_1 ++ []
def dkwX24_is_0 : List UInt8 := [42, 180, 0, 7, 43, 28, 182, 0, 16, 153, 0, 19, 42, 180, 0, 13, 43, 28, 182, 0, 16, 153, 0, 7]
abbrev dktX24_is_0 : List UInt8 := dkwX24_is_0 ++ dktX24_is_1
theorem dksX24_is_0 : cX24_is.data.toList.drop 0 = dktX24_is_0 := by decide +kernel
theorem dksX24_is_1 : cX24_is.data.toList.drop 24 = dktX24_is_1 := dk_seg dksX24_is_0 24 rfl rfl
theorem dX24_is_0 : decode cX24_is 0 = .ok (.aload_n 0, 1) := dk_42 (dk_at dksX24_is_0 0 rfl rfl)
theorem dX24_is_1 : decode cX24_is 1 = .ok (.getfield 7, 3) := dk_180 0 7 (dk_at dksX24_is_0 1 rfl rfl)
theorem dX24_is_4 : decode cX24_is 4 = .ok (.aload_n 1, 1) := dk_43 (dk_at dksX24_is_0 4 rfl rfl)
theorem dX24_is_5 : decode cX24_is 5 = .ok (.iload_n 2, 1) := dk_28 (dk_at dksX24_is_0 5 rfl rfl)
theorem dX24_is_6 : decode cX24_is 6 = .ok (.invokevirtual 16, 3) := dk_182 0 16 (dk_at dksX24_is_0 6 rfl rfl)
theorem dX24_is_9 : decode cX24_is 9 = .ok (.ifCond .eq 19, 3) := dk_153 0 19 (dk_at dksX24_is_0 9 rfl rfl)
theorem dX24_is_12 : decode cX24_is 12 = .ok (.aload_n 0, 1) := dk_42 (dk_at dksX24_is_0 12 rfl rfl)
theorem dX24_is_13 : decode cX24_is 13 = .ok (.getfield 13, 3) := dk_180 0 13 (dk_at dksX24_is_0 13 rfl rfl)
theorem dX24_is_16 : decode cX24_is 16 = .ok (.aload_n 1, 1) := dk_43 (dk_at dksX24_is_0 16 rfl rfl)
theorem dX24_is_17 : decode cX24_is 17 = .ok (.iload_n 2, 1) := dk_28 (dk_at dksX24_is_0 17 rfl rfl)
theorem dX24_is_18 : decode cX24_is 18 = .ok (.invokevirtual 16, 3) := dk_182 0 16 (dk_at dksX24_is_0 18 rfl rfl)
theorem dX24_is_21 : decode cX24_is 21 = .ok (.ifCond .eq 7, 3) := dk_153 0 7 (dk_at dksX24_is_0 21 rfl rfl)
theorem dX24_is_24 : decode cX24_is 24 = .ok (.iconst 1, 1) := dk_4 (dk_at dksX24_is_1 0 rfl rfl)
theorem dX24_is_25 : decode cX24_is 25 = .ok (.goto 4, 3) := dk_167 0 4 (dk_at dksX24_is_1 1 rfl rfl)
theorem dX24_is_28 : decode cX24_is 28 = .ok (.iconst 0, 1) := dk_3 (dk_at dksX24_is_1 4 rfl rfl)
theorem dX24_is_29 : decode cX24_is 29 = .ok (.ireturn, 1) := dk_172 (dk_at dksX24_is_1 5 rfl rfl)
theorem fl_X24_13 : gFl "BitingDoors$Both" 13 [19] 1 := by
  intro args s hts hN ci hc
  simp only [List.mem_cons, List.not_mem_nil, or_false] at hc
  subst hc
  exact ⟨RX24, TX24, 2, "BitingDoors$Both", gCl_X24, in_X24, by decide, Or.inl (hts _ q1540), fun _ h => h⟩
theorem fl_X24_7 : gFl "BitingDoors$Both" 7 [19] 0 := by
  intro args s hts hN ci hc
  simp only [List.mem_cons, List.not_mem_nil, or_false] at hc
  subst hc
  exact ⟨RX24, TX24, 2, "BitingDoors$Both", gCl_X24, in_X24, by decide, Or.inl (hts _ q1539), fun _ h => h⟩
noncomputable def B_X24_is (Rc : Nat → Nat → Int32 → Mo Bool) (t p1 : Nat) (p2 : Int32) : Mo Bool := Mo.bind (gR [19] t 0) (fun v1 => Mo.bind (Rc v1 p1 p2) (fun v2 => Mo.bind ((cond v2 (Mo.bind (gR [19] t 1) (fun v4 => Mo.bind (Rc v4 p1 p2) (fun v5 => cond v5 (Mo.pure true) (Mo.pure false)))) (Mo.pure false) : Mo (Bool))) (fun u3 => Mo.pure u3)))
def dkwX25_is_1 : List UInt8 := [4, 167, 0, 4, 3, 172]
abbrev dktX25_is_1 : List UInt8 := dkwX25_is_1 ++ []
def dkwX25_is_0 : List UInt8 := [42, 180, 0, 7, 43, 28, 182, 0, 16, 154, 0, 15, 42, 180, 0, 13, 43, 28, 182, 0, 16, 153, 0, 7]
abbrev dktX25_is_0 : List UInt8 := dkwX25_is_0 ++ dktX25_is_1
theorem dksX25_is_0 : cX25_is.data.toList.drop 0 = dktX25_is_0 := by decide +kernel
theorem dksX25_is_1 : cX25_is.data.toList.drop 24 = dktX25_is_1 := dk_seg dksX25_is_0 24 rfl rfl
theorem dX25_is_0 : decode cX25_is 0 = .ok (.aload_n 0, 1) := dk_42 (dk_at dksX25_is_0 0 rfl rfl)
theorem dX25_is_1 : decode cX25_is 1 = .ok (.getfield 7, 3) := dk_180 0 7 (dk_at dksX25_is_0 1 rfl rfl)
theorem dX25_is_4 : decode cX25_is 4 = .ok (.aload_n 1, 1) := dk_43 (dk_at dksX25_is_0 4 rfl rfl)
theorem dX25_is_5 : decode cX25_is 5 = .ok (.iload_n 2, 1) := dk_28 (dk_at dksX25_is_0 5 rfl rfl)
theorem dX25_is_6 : decode cX25_is 6 = .ok (.invokevirtual 16, 3) := dk_182 0 16 (dk_at dksX25_is_0 6 rfl rfl)
theorem dX25_is_9 : decode cX25_is 9 = .ok (.ifCond .ne 15, 3) := dk_154 0 15 (dk_at dksX25_is_0 9 rfl rfl)
theorem dX25_is_12 : decode cX25_is 12 = .ok (.aload_n 0, 1) := dk_42 (dk_at dksX25_is_0 12 rfl rfl)
theorem dX25_is_13 : decode cX25_is 13 = .ok (.getfield 13, 3) := dk_180 0 13 (dk_at dksX25_is_0 13 rfl rfl)
theorem dX25_is_16 : decode cX25_is 16 = .ok (.aload_n 1, 1) := dk_43 (dk_at dksX25_is_0 16 rfl rfl)
theorem dX25_is_17 : decode cX25_is 17 = .ok (.iload_n 2, 1) := dk_28 (dk_at dksX25_is_0 17 rfl rfl)
theorem dX25_is_18 : decode cX25_is 18 = .ok (.invokevirtual 16, 3) := dk_182 0 16 (dk_at dksX25_is_0 18 rfl rfl)
theorem dX25_is_21 : decode cX25_is 21 = .ok (.ifCond .eq 7, 3) := dk_153 0 7 (dk_at dksX25_is_0 21 rfl rfl)
theorem dX25_is_24 : decode cX25_is 24 = .ok (.iconst 1, 1) := dk_4 (dk_at dksX25_is_1 0 rfl rfl)
theorem dX25_is_25 : decode cX25_is 25 = .ok (.goto 4, 3) := dk_167 0 4 (dk_at dksX25_is_1 1 rfl rfl)
theorem dX25_is_28 : decode cX25_is 28 = .ok (.iconst 0, 1) := dk_3 (dk_at dksX25_is_1 4 rfl rfl)
theorem dX25_is_29 : decode cX25_is 29 = .ok (.ireturn, 1) := dk_172 (dk_at dksX25_is_1 5 rfl rfl)
theorem fl_X25_13 : gFl "BitingDoors$Any" 13 [20] 1 := by
  intro args s hts hN ci hc
  simp only [List.mem_cons, List.not_mem_nil, or_false] at hc
  subst hc
  exact ⟨RX25, TX25, 2, "BitingDoors$Any", gCl_X25, in_X25, by decide, Or.inl (hts _ q1554), fun _ h => h⟩
theorem fl_X25_7 : gFl "BitingDoors$Any" 7 [20] 0 := by
  intro args s hts hN ci hc
  simp only [List.mem_cons, List.not_mem_nil, or_false] at hc
  subst hc
  exact ⟨RX25, TX25, 2, "BitingDoors$Any", gCl_X25, in_X25, by decide, Or.inl (hts _ q1553), fun _ h => h⟩
noncomputable def B_X25_is (Rc : Nat → Nat → Int32 → Mo Bool) (t p1 : Nat) (p2 : Int32) : Mo Bool := Mo.bind (gR [20] t 0) (fun v1 => Mo.bind (Rc v1 p1 p2) (fun v2 => Mo.bind ((cond v2 (Mo.pure true) (Mo.bind (gR [20] t 1) (fun v4 => Mo.bind (Rc v4 p1 p2) (fun v5 => cond v5 (Mo.pure true) (Mo.pure false)))) : Mo (Bool))) (fun u3 => Mo.pure u3)))
noncomputable def N_is : Nat → Nat → Nat → Int32 → Mo Bool
  | 0 => fun _ _ _ => Mo.fail
  | n + 1 => fun t p1 p2 => Mo.bind (clsOf t) (fun c => if c = 15 then B_X20_is (N_is n) t p1 p2 else if c = 19 then B_X24_is (N_is n) t p1 p2 else if c = 20 then B_X25_is (N_is n) t p1 p2 else if c = 16 then M_X21_is t p1 p2 else if c = 17 then M_X22_is t p1 p2 else if c = 18 then M_X23_is t p1 p2 else Mo.fail)
def gIs (G : gG) (n : Nat) : Prop := (∀ (t p1 : Nat) (p2 : Int32), gCt G yX20_is cX20_is 3 (some .boolean) (5 + n) (110 + n * 24) [.ref t, .ref p1, .int p2] (B_X20_is (N_is n) t p1 p2) (fun x : Bool => some (.int (b2i x)))) ∧ (∀ (t p1 : Nat) (p2 : Int32), gCt G yX24_is cX24_is 3 (some .boolean) (5 + n) (110 + n * 24) [.ref t, .ref p1, .int p2] (B_X24_is (N_is n) t p1 p2) (fun x : Bool => some (.int (b2i x)))) ∧ (∀ (t p1 : Nat) (p2 : Int32), gCt G yX25_is cX25_is 3 (some .boolean) (5 + n) (110 + n * 24) [.ref t, .ref p1, .int p2] (B_X25_is (N_is n) t p1 p2) (fun x : Bool => some (.int (b2i x))))
section
variable {K : gK} {cc : ByteArray} {nL : Nat} {own nm : String} {ret : Option FieldType} {fr lo : Nat} {h : gH} {pc : Nat} {lv : List (Nat × Value)} {st : List Value} {β : Type} {r : β} {h' : gH}
theorem v_dis {n : Nat} (hP : ∀ m, n = m + 1 → gIs (kG K) m) (X : gX K cc nL own nm ret fr lo) {t p1 : Nat} {p2 : Int32} {g : Bool → Mo β} (hd : (Mo.bind (N_is n t p1 p2) g).1 h = some (r, h')) (hle : gLe h' (kh1 K)) {index : Nat} (q1 : Cond.methodLink own index (⟨"BitingDoors$Cond", "is", "(LBitingDoors$Walker;I)Z"⟩ : MethodName) ∈ lw_all) (hR : 5 + n ≤ fr ∧ 110 + n * 24 ≤ lo) (hW8 : (st.map fun v => v.category).sum ≤ 8) (hdg : decode cc pc = .ok (.invokevirtual index, 3))
    (kk : ∀ (b : Bool) (h1 : gH), (g b).1 h1 = some (r, h') → V K nL h1 (pc + 3) lv (((fun x : Bool => some (.int (b2i x))) b).toList ++ st)) : V K nL h pc lv (.int p2 :: .ref p1 :: .ref t :: st) := by
  cases n with
  | zero => cases (Mo.bind_some hd).choose_spec.choose_spec.1
  | succ n =>
    obtain ⟨P1, P2, P3⟩ := hP n rfl
    have hd : (Mo.bind (Mo.bind (clsOf t) (fun c => if c = 15 then B_X20_is (N_is n) t p1 p2 else if c = 19 then B_X24_is (N_is n) t p1 p2 else if c = 20 then B_X25_is (N_is n) t p1 p2 else if c = 16 then M_X21_is t p1 p2 else if c = 17 then M_X22_is t p1 p2 else if c = 18 then M_X23_is t p1 p2 else Mo.fail)) g).1 h = some (r, h') := hd
    obtain ⟨o, ho, hd⟩ := cls_some hd
    by_cases e15 : o.1 = 15
    · have hd := bite_t e15 hd
      have hw : GoodIn lw_all (va_wsU own index RX20 "BitingDoors$Cond" ⟨"BitingDoors$Cond", "is", "(LBitingDoors$Walker;I)Z"⟩ yX20_is (ws_ yX20_is cX20_is 3 (some .boolean))) := by
        refine lw_app (fun w hw => ?_) (lw_meth q1587)
        simp only [List.mem_cons, List.not_mem_nil, or_false] at hw
        rcases hw with e | e | e | e | e
        · rw [e]; exact q1
        · rw [e]; exact q1566
        · rw [e]; exact q1596
        · rw [e]; exact q1586
        · rw [e]; exact q140
      exact v_callA (n := 2) X hd hle (P1 t p1 p2) ho e15 gCl_X20 hw (List.mem_of_getElem? (i := 21) rfl) (by decide +kernel) rfl ⟨by omega, by omega⟩ rfl hW8 hdg kk
    have hd := bite_f e15 hd
    by_cases e19 : o.1 = 19
    · have hd := bite_t e19 hd
      have hw : GoodIn lw_all (va_wsU own index RX24 "BitingDoors$Cond" ⟨"BitingDoors$Cond", "is", "(LBitingDoors$Walker;I)Z"⟩ yX24_is (ws_ yX24_is cX24_is 3 (some .boolean))) := by
        refine lw_app (fun w hw => ?_) (lw_meth q1576)
        simp only [List.mem_cons, List.not_mem_nil, or_false] at hw
        rcases hw with e | e | e | e | e
        · rw [e]; exact q1
        · rw [e]; exact q1566
        · rw [e]; exact q1594
        · rw [e]; exact q1575
        · rw [e]; exact q144
      exact v_callA (n := 2) X hd hle (P2 t p1 p2) ho e19 gCl_X24 hw (List.mem_of_getElem? (i := 21) rfl) (by decide +kernel) rfl ⟨by omega, by omega⟩ rfl hW8 hdg kk
    have hd := bite_f e19 hd
    by_cases e20 : o.1 = 20
    · have hd := bite_t e20 hd
      have hw : GoodIn lw_all (va_wsU own index RX25 "BitingDoors$Cond" ⟨"BitingDoors$Cond", "is", "(LBitingDoors$Walker;I)Z"⟩ yX25_is (ws_ yX25_is cX25_is 3 (some .boolean))) := by
        refine lw_app (fun w hw => ?_) (lw_meth q1569)
        simp only [List.mem_cons, List.not_mem_nil, or_false] at hw
        rcases hw with e | e | e | e | e
        · rw [e]; exact q1
        · rw [e]; exact q1566
        · rw [e]; exact q1567
        · rw [e]; exact q1568
        · rw [e]; exact q145
      exact v_callA (n := 2) X hd hle (P3 t p1 p2) ho e20 gCl_X25 hw (List.mem_of_getElem? (i := 21) rfl) (by decide +kernel) rfl ⟨by omega, by omega⟩ rfl hW8 hdg kk
    have hd := bite_f e20 hd
    by_cases e16 : o.1 = 16
    · have hd := bite_t e16 hd
      have hw : GoodIn lw_all (va_wsU own index RX21 "BitingDoors$Cond" ⟨"BitingDoors$Cond", "is", "(LBitingDoors$Walker;I)Z"⟩ yX21_is (ws_ yX21_is cX21_is 3 (some .boolean))) := by
        refine lw_app (fun w hw => ?_) (lw_meth q1572)
        simp only [List.mem_cons, List.not_mem_nil, or_false] at hw
        rcases hw with e | e | e | e | e
        · rw [e]; exact q1
        · rw [e]; exact q1566
        · rw [e]; exact q1593
        · rw [e]; exact q1571
        · rw [e]; exact q141
      exact v_callA (n := 2) X hd hle (ct_X21_is _ t p1 p2) ho e16 gCl_X21 hw (List.mem_of_getElem? (i := 21) rfl) (by decide +kernel) rfl ⟨by omega, by omega⟩ rfl hW8 hdg kk
    have hd := bite_f e16 hd
    by_cases e17 : o.1 = 17
    · have hd := bite_t e17 hd
      have hw : GoodIn lw_all (va_wsU own index RX22 "BitingDoors$Cond" ⟨"BitingDoors$Cond", "is", "(LBitingDoors$Walker;I)Z"⟩ yX22_is (ws_ yX22_is cX22_is 3 (some .boolean))) := by
        refine lw_app (fun w hw => ?_) (lw_meth q1590)
        simp only [List.mem_cons, List.not_mem_nil, or_false] at hw
        rcases hw with e | e | e | e | e
        · rw [e]; exact q1
        · rw [e]; exact q1566
        · rw [e]; exact q1597
        · rw [e]; exact q1589
        · rw [e]; exact q142
      exact v_callA (n := 2) X hd hle (ct_X22_is _ t p1 p2) ho e17 gCl_X22 hw (List.mem_of_getElem? (i := 21) rfl) (by decide +kernel) rfl ⟨by omega, by omega⟩ rfl hW8 hdg kk
    have hd := bite_f e17 hd
    by_cases e18 : o.1 = 18
    · have hd := bite_t e18 hd
      have hw : GoodIn lw_all (va_wsU own index RX23 "BitingDoors$Cond" ⟨"BitingDoors$Cond", "is", "(LBitingDoors$Walker;I)Z"⟩ yX23_is (ws_ yX23_is cX23_is 4 (some .boolean))) := by
        refine lw_app (fun w hw => ?_) (lw_meth q1579)
        simp only [List.mem_cons, List.not_mem_nil, or_false] at hw
        rcases hw with e | e | e | e | e
        · rw [e]; exact q1
        · rw [e]; exact q1566
        · rw [e]; exact q1595
        · rw [e]; exact q1578
        · rw [e]; exact q143
      exact v_callA (n := 2) X hd hle (ct_X23_is _ t p1 p2) ho e18 gCl_X23 hw (List.mem_of_getElem? (i := 21) rfl) (by decide +kernel) rfl ⟨by omega, by omega⟩ rfl hW8 hdg kk
    have hd := bite_f e18 hd
    cases (Mo.bind_some hd).choose_spec.choose_spec.1
end
set_option maxHeartbeats 4000000 in
theorem st_X20_is (G : gG) (n : Nat) (hP : ∀ m, n = m + 1 → gIs G m) : ∀ (t p1 : Nat) (p2 : Int32), gCt G yX20_is cX20_is 3 (some .boolean) (5 + n) (110 + n * 24) [.ref t, .ref p1, .int p2] (B_X20_is (N_is n) t p1 p2) (fun x : Bool => some (.int (b2i x))) := by
  intro t p1 p2
  refine gCt.of (by decide) (Nat.le_of_ble_eq_true rfl) (fun K r hG X hd ho => ?_)
  subst hG
  have X : gX K cX20_is 3 "BitingDoors$Not" "is" (some .boolean) (5 + n) (110 + n * 24) := X
  have hle : gLe (kh1 K) (kh1 K) := gLe.rf
  show V K 3 (kh0 K) 0 [(0, .ref t), (1, .ref p1), (2, .int p2)] []
  generalize kh0 K = h at hd ⊢
  unfold B_X20_is at hd
  refine v_aload_n X dX20_is_0 0 0 rfl rfl ?_
  refine v_getR X hd fl_X20_7 dX20_is_1 (fun v1 hd => ?_)
  refine v_aload_n X dX20_is_4 1 1 rfl rfl ?_
  refine v_iload_n X dX20_is_5 2 2 rfl rfl ?_
  refine v_dis hP X hd hle q1588 ⟨by omega, by omega⟩ (Nat.le_of_ble_eq_true rfl) dX20_is_6 (fun v2 h hd => ?_)
  show V K 3 h 9 [(0, .ref t), (1, .ref p1), (2, .int p2)] [.int (b2i v2)]
  obtain ⟨u3, h1, hd, hd2⟩ := Mo.bind_some hd
  have KJ : V K 3 h1 17 [] [.int (b2i u3)] := by
    clear hd
    have hd := hd2
    exact v_zret X hd rfl ho dX20_is_17
  have hle := (Mo.le hd2).tr hle
  clear hd2
  refine v_ifZ_ne (tgt := 16) X dX20_is_9 (by decide) (fun q => ?_) (fun q => ?_)
  · have hd := cnd_t q hd
    refine v_iconst (v := 0) X dX20_is_16 (by decide) ?_
    exact v_loc [] rfl (v_at (P := fun (u3 : Bool) h => V K 3 h 17 [] [.int (b2i u3)]) hd KJ)
  · have hd := cnd_f q hd
    refine v_iconst (v := 1) X dX20_is_12 (by decide) ?_
    refine v_goto (tgt := 17) X dX20_is_13 (by decide) ?_
    exact v_loc [] rfl (v_at (P := fun (u3 : Bool) h => V K 3 h 17 [] [.int (b2i u3)]) hd KJ)
set_option maxHeartbeats 4000000 in
theorem st_X24_is (G : gG) (n : Nat) (hP : ∀ m, n = m + 1 → gIs G m) : ∀ (t p1 : Nat) (p2 : Int32), gCt G yX24_is cX24_is 3 (some .boolean) (5 + n) (110 + n * 24) [.ref t, .ref p1, .int p2] (B_X24_is (N_is n) t p1 p2) (fun x : Bool => some (.int (b2i x))) := by
  intro t p1 p2
  refine gCt.of (by decide) (Nat.le_of_ble_eq_true rfl) (fun K r hG X hd ho => ?_)
  subst hG
  have X : gX K cX24_is 3 "BitingDoors$Both" "is" (some .boolean) (5 + n) (110 + n * 24) := X
  have hle : gLe (kh1 K) (kh1 K) := gLe.rf
  show V K 3 (kh0 K) 0 [(0, .ref t), (1, .ref p1), (2, .int p2)] []
  generalize kh0 K = h at hd ⊢
  unfold B_X24_is at hd
  refine v_aload_n X dX24_is_0 0 0 rfl rfl ?_
  refine v_getR X hd fl_X24_7 dX24_is_1 (fun v1 hd => ?_)
  refine v_aload_n X dX24_is_4 1 1 rfl rfl ?_
  refine v_iload_n X dX24_is_5 2 2 rfl rfl ?_
  refine v_dis hP X hd hle q1577 ⟨by omega, by omega⟩ (Nat.le_of_ble_eq_true rfl) dX24_is_6 (fun v2 h hd => ?_)
  show V K 3 h 9 [(0, .ref t), (1, .ref p1), (2, .int p2)] [.int (b2i v2)]
  obtain ⟨u3, h1, hd, hd2⟩ := Mo.bind_some hd
  have KJ : V K 3 h1 29 [] [.int (b2i u3)] := by
    clear hd
    have hd := hd2
    exact v_zret X hd rfl ho dX24_is_29
  have hle := (Mo.le hd2).tr hle
  clear hd2
  refine v_ifZ_eq (tgt := 28) X dX24_is_9 (by decide) (fun q => ?_) (fun q => ?_)
  · have hd := cnd_f q hd
    refine v_iconst (v := 0) X dX24_is_28 (by decide) ?_
    exact v_loc [] rfl (v_at (P := fun (u3 : Bool) h => V K 3 h 29 [] [.int (b2i u3)]) hd KJ)
  · have hd := cnd_t q hd
    refine v_aload_n X dX24_is_12 0 0 rfl rfl ?_
    refine v_getR X hd fl_X24_13 dX24_is_13 (fun v4 hd => ?_)
    refine v_aload_n X dX24_is_16 1 1 rfl rfl ?_
    refine v_iload_n X dX24_is_17 2 2 rfl rfl ?_
    refine v_dis hP X hd hle q1577 ⟨by omega, by omega⟩ (Nat.le_of_ble_eq_true rfl) dX24_is_18 (fun v5 h hd => ?_)
    show V K 3 h 21 [(0, .ref t), (1, .ref p1), (2, .int p2)] [.int (b2i v5)]
    refine v_ifZ_eq (tgt := 28) X dX24_is_21 (by decide) (fun q => ?_) (fun q => ?_)
    · have hd := cnd_f q hd
      refine v_iconst (v := 0) X dX24_is_28 (by decide) ?_
      exact v_loc [] rfl (v_at (P := fun (u3 : Bool) h => V K 3 h 29 [] [.int (b2i u3)]) hd KJ)
    · have hd := cnd_t q hd
      refine v_iconst (v := 1) X dX24_is_24 (by decide) ?_
      refine v_goto (tgt := 29) X dX24_is_25 (by decide) ?_
      exact v_loc [] rfl (v_at (P := fun (u3 : Bool) h => V K 3 h 29 [] [.int (b2i u3)]) hd KJ)
set_option maxHeartbeats 4000000 in
theorem st_X25_is (G : gG) (n : Nat) (hP : ∀ m, n = m + 1 → gIs G m) : ∀ (t p1 : Nat) (p2 : Int32), gCt G yX25_is cX25_is 3 (some .boolean) (5 + n) (110 + n * 24) [.ref t, .ref p1, .int p2] (B_X25_is (N_is n) t p1 p2) (fun x : Bool => some (.int (b2i x))) := by
  intro t p1 p2
  refine gCt.of (by decide) (Nat.le_of_ble_eq_true rfl) (fun K r hG X hd ho => ?_)
  subst hG
  have X : gX K cX25_is 3 "BitingDoors$Any" "is" (some .boolean) (5 + n) (110 + n * 24) := X
  have hle : gLe (kh1 K) (kh1 K) := gLe.rf
  show V K 3 (kh0 K) 0 [(0, .ref t), (1, .ref p1), (2, .int p2)] []
  generalize kh0 K = h at hd ⊢
  unfold B_X25_is at hd
  refine v_aload_n X dX25_is_0 0 0 rfl rfl ?_
  refine v_getR X hd fl_X25_7 dX25_is_1 (fun v1 hd => ?_)
  refine v_aload_n X dX25_is_4 1 1 rfl rfl ?_
  refine v_iload_n X dX25_is_5 2 2 rfl rfl ?_
  refine v_dis hP X hd hle q1570 ⟨by omega, by omega⟩ (Nat.le_of_ble_eq_true rfl) dX25_is_6 (fun v2 h hd => ?_)
  show V K 3 h 9 [(0, .ref t), (1, .ref p1), (2, .int p2)] [.int (b2i v2)]
  obtain ⟨u3, h1, hd, hd2⟩ := Mo.bind_some hd
  have KJ : V K 3 h1 29 [] [.int (b2i u3)] := by
    clear hd
    have hd := hd2
    exact v_zret X hd rfl ho dX25_is_29
  have hle := (Mo.le hd2).tr hle
  clear hd2
  refine v_ifZ_ne (tgt := 24) X dX25_is_9 (by decide) (fun q => ?_) (fun q => ?_)
  · have hd := cnd_t q hd
    refine v_iconst (v := 1) X dX25_is_24 (by decide) ?_
    refine v_goto (tgt := 29) X dX25_is_25 (by decide) ?_
    exact v_loc [] rfl (v_at (P := fun (u3 : Bool) h => V K 3 h 29 [] [.int (b2i u3)]) hd KJ)
  · have hd := cnd_f q hd
    refine v_aload_n X dX25_is_12 0 0 rfl rfl ?_
    refine v_getR X hd fl_X25_13 dX25_is_13 (fun v4 hd => ?_)
    refine v_aload_n X dX25_is_16 1 1 rfl rfl ?_
    refine v_iload_n X dX25_is_17 2 2 rfl rfl ?_
    refine v_dis hP X hd hle q1570 ⟨by omega, by omega⟩ (Nat.le_of_ble_eq_true rfl) dX25_is_18 (fun v5 h hd => ?_)
    show V K 3 h 21 [(0, .ref t), (1, .ref p1), (2, .int p2)] [.int (b2i v5)]
    refine v_ifZ_eq (tgt := 28) X dX25_is_21 (by decide) (fun q => ?_) (fun q => ?_)
    · have hd := cnd_f q hd
      refine v_iconst (v := 0) X dX25_is_28 (by decide) ?_
      exact v_loc [] rfl (v_at (P := fun (u3 : Bool) h => V K 3 h 29 [] [.int (b2i u3)]) hd KJ)
    · have hd := cnd_t q hd
      refine v_iconst (v := 1) X dX25_is_24 (by decide) ?_
      refine v_goto (tgt := 29) X dX25_is_25 (by decide) ?_
      exact v_loc [] rfl (v_at (P := fun (u3 : Bool) h => V K 3 h 29 [] [.int (b2i u3)]) hd KJ)
theorem is_all (G : gG) : ∀ n, gIs G n := by
  intro n
  induction n with
  | zero => exact ⟨st_X20_is G 0 (fun m e => by cases e), st_X24_is G 0 (fun m e => by cases e), st_X25_is G 0 (fun m e => by cases e)⟩
  | succ n ih => exact ⟨st_X20_is G (n + 1) (fun m e => by cases e; exact ih), st_X24_is G (n + 1) (fun m e => by cases e; exact ih), st_X25_is G (n + 1) (fun m e => by cases e; exact ih)⟩
def dkwX1_said_2 : List UInt8 := [167, 0, 4, 3, 128, 60, 132, 2, 1, 167, 255, 213, 27, 172]
abbrev dktX1_said_2 : List UInt8 := dkwX1_said_2 ++ []
def dkwX1_said_1 : List UInt8 := [162, 0, 35, 27, 42, 180, 0, 227, 42, 180, 0, 90, 28, 182, 1, 219, 153, 0, 10, 28, 184, 1, 138]
abbrev dktX1_said_1 : List UInt8 := dkwX1_said_1 ++ dktX1_said_2
def dkwX1_said_0 : List UInt8 := [42, 180, 0, 227, 199, 0, 5, 2, 172, 3, 60, 3, 61, 28, 42, 180, 0, 90, 180, 0, 243, 180, 0, 247]
abbrev dktX1_said_0 : List UInt8 := dkwX1_said_0 ++ dktX1_said_1
theorem dksX1_said_0 : cX1_said.data.toList.drop 0 = dktX1_said_0 := by decide +kernel
theorem dksX1_said_1 : cX1_said.data.toList.drop 24 = dktX1_said_1 := dk_seg dksX1_said_0 24 rfl rfl
theorem dksX1_said_2 : cX1_said.data.toList.drop 47 = dktX1_said_2 := dk_seg dksX1_said_1 23 rfl rfl
theorem dX1_said_0 : decode cX1_said 0 = .ok (.aload_n 0, 1) := dk_42 (dk_at dksX1_said_0 0 rfl rfl)
theorem dX1_said_1 : decode cX1_said 1 = .ok (.getfield 227, 3) := dk_180 0 227 (dk_at dksX1_said_0 1 rfl rfl)
theorem dX1_said_4 : decode cX1_said 4 = .ok (.ifnonnull 5, 3) := dk_199 0 5 (dk_at dksX1_said_0 4 rfl rfl)
theorem dX1_said_7 : decode cX1_said 7 = .ok (.iconst (-1), 1) := dk_2 (dk_at dksX1_said_0 7 rfl rfl)
theorem dX1_said_8 : decode cX1_said 8 = .ok (.ireturn, 1) := dk_172 (dk_at dksX1_said_0 8 rfl rfl)
theorem dX1_said_9 : decode cX1_said 9 = .ok (.iconst 0, 1) := dk_3 (dk_at dksX1_said_0 9 rfl rfl)
theorem dX1_said_10 : decode cX1_said 10 = .ok (.istore_n 1, 1) := dk_60 (dk_at dksX1_said_0 10 rfl rfl)
theorem dX1_said_11 : decode cX1_said 11 = .ok (.iconst 0, 1) := dk_3 (dk_at dksX1_said_0 11 rfl rfl)
theorem dX1_said_12 : decode cX1_said 12 = .ok (.istore_n 2, 1) := dk_61 (dk_at dksX1_said_0 12 rfl rfl)
theorem dX1_said_13 : decode cX1_said 13 = .ok (.iload_n 2, 1) := dk_28 (dk_at dksX1_said_0 13 rfl rfl)
theorem dX1_said_14 : decode cX1_said 14 = .ok (.aload_n 0, 1) := dk_42 (dk_at dksX1_said_0 14 rfl rfl)
theorem dX1_said_15 : decode cX1_said 15 = .ok (.getfield 90, 3) := dk_180 0 90 (dk_at dksX1_said_0 15 rfl rfl)
theorem dX1_said_18 : decode cX1_said 18 = .ok (.getfield 243, 3) := dk_180 0 243 (dk_at dksX1_said_0 18 rfl rfl)
theorem dX1_said_21 : decode cX1_said 21 = .ok (.getfield 247, 3) := dk_180 0 247 (dk_at dksX1_said_0 21 rfl rfl)
theorem dX1_said_24 : decode cX1_said 24 = .ok (.if_icmp .ge 35, 3) := dk_162 0 35 (dk_at dksX1_said_1 0 rfl rfl)
theorem dX1_said_27 : decode cX1_said 27 = .ok (.iload_n 1, 1) := dk_27 (dk_at dksX1_said_1 3 rfl rfl)
theorem dX1_said_28 : decode cX1_said 28 = .ok (.aload_n 0, 1) := dk_42 (dk_at dksX1_said_1 4 rfl rfl)
theorem dX1_said_29 : decode cX1_said 29 = .ok (.getfield 227, 3) := dk_180 0 227 (dk_at dksX1_said_1 5 rfl rfl)
theorem dX1_said_32 : decode cX1_said 32 = .ok (.aload_n 0, 1) := dk_42 (dk_at dksX1_said_1 8 rfl rfl)
theorem dX1_said_33 : decode cX1_said 33 = .ok (.getfield 90, 3) := dk_180 0 90 (dk_at dksX1_said_1 9 rfl rfl)
theorem dX1_said_36 : decode cX1_said 36 = .ok (.iload_n 2, 1) := dk_28 (dk_at dksX1_said_1 12 rfl rfl)
theorem dX1_said_37 : decode cX1_said 37 = .ok (.invokevirtual 475, 3) := dk_182 1 219 (dk_at dksX1_said_1 13 rfl rfl)
theorem dX1_said_40 : decode cX1_said 40 = .ok (.ifCond .eq 10, 3) := dk_153 0 10 (dk_at dksX1_said_1 16 rfl rfl)
theorem dX1_said_43 : decode cX1_said 43 = .ok (.iload_n 2, 1) := dk_28 (dk_at dksX1_said_1 19 rfl rfl)
theorem dX1_said_44 : decode cX1_said 44 = .ok (.invokestatic 394, 3) := dk_184 1 138 (dk_at dksX1_said_1 20 rfl rfl)
theorem dX1_said_47 : decode cX1_said 47 = .ok (.goto 4, 3) := dk_167 0 4 (dk_at dksX1_said_2 0 rfl rfl)
theorem dX1_said_50 : decode cX1_said 50 = .ok (.iconst 0, 1) := dk_3 (dk_at dksX1_said_2 3 rfl rfl)
theorem dX1_said_51 : decode cX1_said 51 = .ok (.ior, 1) := dk_128 (dk_at dksX1_said_2 4 rfl rfl)
theorem dX1_said_52 : decode cX1_said 52 = .ok (.istore_n 1, 1) := dk_60 (dk_at dksX1_said_2 5 rfl rfl)
theorem dX1_said_53 : decode cX1_said 53 = .ok (.iinc 2 1, 3) := dk_132 2 1 (dk_at dksX1_said_2 6 rfl rfl)
theorem dX1_said_56 : decode cX1_said 56 = .ok (.goto (-43), 3) := dk_167 255 213 (dk_at dksX1_said_2 9 rfl rfl)
theorem dX1_said_59 : decode cX1_said 59 = .ok (.iload_n 1, 1) := dk_27 (dk_at dksX1_said_2 12 rfl rfl)
theorem dX1_said_60 : decode cX1_said 60 = .ok (.ireturn, 1) := dk_172 (dk_at dksX1_said_2 13 rfl rfl)
theorem dn_X1_said : yX1_said.cls ≠ "java/lang/invoke/MethodHandle" ∧ yX1_said.cls ≠ "java/lang/invoke/VarHandle" ∧ (parseMethodDescriptor yX1_said.desc).map (fun d => d.parameters.length) = some 0 := by decide +kernel
noncomputable def M_X1_said (t : Nat) : Mo Int32 := Mo.bind (chk [0] t) (fun _ => Mo.bind (gNu [0] t 42) (fun v1 => Mo.opt v1 (Mo.pure (-1)) (fun y2 => Mo.bind (Mo.loop (S := Int32 × Int32) (E := Int32) (fun s3 => Mo.bind (gR [0] t 9) (fun v7 => Mo.bind (gR [2] v7 0) (fun v8 => Mo.bind (gI [3] v8 6) (fun v9 => if v9 ≤ s3.2 then Mo.pure (Sum.inr s3.1) else Mo.bind (gR [0] t 42) (fun v10 => Mo.bind (gR [0] t 9) (fun v11 => Mo.bind (N_is 64 v10 v11 s3.2) (fun v12 => Mo.bind ((cond v12 (Mo.bind (M_X1_one s3.2) (fun v16 => Mo.pure v16)) (Mo.pure 0) : Mo (Int32))) (fun u13 => Mo.lv (s3.1 ||| u13) (fun v14 => Mo.lv (s3.2 + 1) (fun v15 => Mo.pure (Sum.inl (v14, v15)))))))))))) (0, 0)) (fun e6 => Mo.pure e6))))
set_option maxHeartbeats 4000000 in
theorem ct_X1_said (G : gG) (t : Nat) : gCt G yX1_said cX1_said 3 (some .int) 69 1646 [.ref t] (M_X1_said t) (fun x : Int32 => some (.int x)) := by
  refine gCt.of (by decide) (Nat.le_of_ble_eq_true rfl) (fun K r hG X hd ho => ?_)
  subst hG
  have X : gX K cX1_said 3 "BitingDoors" "said" (some .int) 69 1646 := X
  have hle : gLe (kh1 K) (kh1 K) := gLe.rf
  show V K 3 (kh0 K) 0 [(0, .ref t)] []
  generalize kh0 K = h at hd ⊢
  unfold M_X1_said at hd
  obtain ⟨-, hd⟩ := chk_some hd
  refine v_aload_n X dX1_said_0 0 0 rfl rfl ?_
  refine v_getN X hd fl_X1_227 dX1_said_1 (fun v1 hd => ?_)
  refine v_ifnonnull (tgt := 9) X dX1_said_4 (by decide) (fun y2 q => ?_) (fun q => ?_)
  · have hd := opt_s q hd
    refine v_iconst (v := 0) X dX1_said_9 (by decide) ?_
    refine v_istore_n (lv2 := [(1, .int 0), (0, .ref t)]) X dX1_said_10 1 rfl (by decide) rfl ?_
    refine v_iconst (v := 0) X dX1_said_11 (by decide) ?_
    refine v_istore_n (lv2 := [(2, .int 0), (1, .int 0), (0, .ref t)]) X dX1_said_12 2 rfl (by decide) rfl ?_
    obtain ⟨e6, h1, hd, hd2⟩ := Mo.bind_some hd
    have KX : V K 3 h1 59 [(1, .int e6)] [] := by
      clear hd
      have hd := hd2
      refine v_iload_n X dX1_said_59 0 1 rfl rfl ?_
      exact v_iret X hd ho dX1_said_60
    have hle := (Mo.le hd2).tr hle
    clear hd2
    refine v_loc [2, 1, 0] rfl ?_
    refine loop_ind hd (fun (s3 : Int32 × Int32) h => V K 3 h 13 [(0, .ref t), (1, .int s3.1), (2, .int s3.2)] []) (fun s3 h x h2 hd hle0 ih4 ho5 => ?_)
    have hle := hle0.tr hle
    refine v_iload_n X dX1_said_13 2 2 rfl rfl ?_
    refine v_aload_n X dX1_said_14 0 0 rfl rfl ?_
    refine v_getR X hd fl_X1_90 dX1_said_15 (fun v7 hd => ?_)
    refine v_getR X hd fl_X1_243 dX1_said_18 (fun v8 hd => ?_)
    refine v_getI X hd fl_X1_247 dX1_said_21 (fun v9 hd => ?_)
    refine v_icmp_ge (tgt := 59) X dX1_said_24 (by decide) (fun q => ?_) (fun q => ?_)
    · have hd := ite_t q hd
      exact v_loc [1] rfl (v_at (P := fun (e6 : Int32) h => V K 3 h 59 [(1, .int e6)] []) (lp_out hd ho5) KX)
    · have hd := ite_f q hd
      refine v_iload_n X dX1_said_27 1 1 rfl rfl ?_
      refine v_aload_n X dX1_said_28 0 0 rfl rfl ?_
      refine v_getR X hd fl_X1_227 dX1_said_29 (fun v10 hd => ?_)
      refine v_aload_n X dX1_said_32 0 0 rfl rfl ?_
      refine v_getR X hd fl_X1_90 dX1_said_33 (fun v11 hd => ?_)
      refine v_iload_n X dX1_said_36 2 2 rfl rfl ?_
      refine v_dis (fun m _ => is_all _ m) X hd hle q1564 ⟨by decide, by decide⟩ (Nat.le_of_ble_eq_true rfl) dX1_said_37 (fun v12 h hd => ?_)
      show V K 3 h 40 [(0, .ref t), (1, .int s3.1), (2, .int s3.2)] [.int (b2i v12), .int s3.1]
      obtain ⟨u13, h1, hd, hd2⟩ := Mo.bind_some hd
      have KJ : V K 3 h1 51 [(0, .ref t), (2, .int s3.2)] [.int u13, .int s3.1] := by
        clear hd
        have hd := hd2
        refine v_ior X dX1_said_51 ?_
        refine v_lvI hd (fun v14 hd => ?_)
        refine v_istore_n (lv2 := [(1, .int v14), (0, .ref t), (2, .int s3.2)]) X dX1_said_52 1 rfl (by decide) rfl ?_
        refine v_iincL (lv2 := fun v15 => [(2, .int v15), (1, .int v14), (0, .ref t)]) X hd dX1_said_53 2 rfl (by decide : Int32.ofInt 1 = 1) (by decide) (fun v15 => rfl) (fun v15 hd => ?_)
        refine v_goto (tgt := 13) X dX1_said_56 (by decide) ?_
        exact v_loc [2, 1, 0] rfl (lp_in (P := fun (s3 : Int32 × Int32) h => V K 3 h 13 [(0, .ref t), (1, .int s3.1), (2, .int s3.2)] []) hd ih4)
      have hle := (Mo.le hd2).tr hle
      clear hd2
      refine v_ifZ_eq (tgt := 50) X dX1_said_40 (by decide) (fun q => ?_) (fun q => ?_)
      · have hd := cnd_f q hd
        refine v_iconst (v := 0) X dX1_said_50 (by decide) ?_
        exact v_loc [0, 2] rfl (v_at (P := fun (u13 : Int32) h => V K 3 h 51 [(0, .ref t), (2, .int s3.2)] [.int u13, .int s3.1]) hd KJ)
      · have hd := cnd_t q hd
        refine v_iload_n X dX1_said_43 2 2 rfl rfl ?_
        refine v_callS X hd hle (ct_X1_one _ s3.2) (lw_S q1240 q895 q109 q896) dn_X1_one rfl ⟨by decide, by decide⟩ rfl (Nat.le_of_ble_eq_true rfl) dX1_said_44 (fun v16 h hd => ?_)
        show V K 3 h 47 [(0, .ref t), (1, .int s3.1), (2, .int s3.2)] [.int v16, .int s3.1]
        refine v_goto (tgt := 51) X dX1_said_47 (by decide) ?_
        exact v_loc [0, 2] rfl (v_at (P := fun (u13 : Int32) h => V K 3 h 51 [(0, .ref t), (2, .int s3.2)] [.int u13, .int s3.1]) hd KJ)
  · have hd := opt_n q hd
    refine v_iconst (v := (-1)) X dX1_said_7 (by decide) ?_
    exact v_iret X hd ho dX1_said_8
