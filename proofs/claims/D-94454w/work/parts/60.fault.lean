set_option maxRecDepth 100000
/-! ===== new Fault(): all that Throwable holds ends null ===== -/
noncomputable def Mo.only {β : Type} (h1 : gH) (x : Mo β) : Mo β := ⟨fun h => @ite _ (h = h1) (Classical.propDecidable _) (x.1 h) none, fun h r h' e => by
  dsimp only at e
  by_cases z : h = h1
  · rw [if_pos z] at e; exact x.2 _ _ _ e
  · rw [if_neg z] at e; cases e⟩
theorem Mo.only_at {β : Type} {h1 : gH} {x : Mo β} : (Mo.only h1 x).1 h1 = x.1 h1 := if_pos rfl
theorem Mo.only_some {β : Type} {h1 h h' : gH} {x : Mo β} {r : β} (e : (Mo.only h1 x).1 h = some (r, h')) : h = h1 ∧ x.1 h = some (r, h') := by
  have e : (@ite _ (h = h1) (Classical.propDecidable _) (x.1 h) none) = some (r, h') := e
  by_cases z : h = h1
  · rw [if_pos z] at e; exact ⟨z, e⟩
  · rw [if_neg z] at e; cases e
section
variable {K : gK} {cc : ByteArray} {nL : Nat} {own nm : String} {ret : Option FieldType} {fr lo : Nat} {h : gH} {pc : Nat} {lv : List (Nat × Value)} {st : List Value}
theorem v_anull_n (X : gX K cc nL own nm ret fr lo) {j : Fin 4} (hd : decode cc pc = .ok (.aload_n j, 1)) (q i : Nat) (hi : (j : Nat) = i) (hl0 : lv[q]? = some (i, .null)) (k : V K nL h (pc + 1) lv (.null :: st)) : V K nL h pc lv st :=
  fun ls hl H locs cells slots r => lv_aload_nN X.hx X.hb hd hi (lv_at hl q hl0) (k ls hl H locs cells slots r)
theorem v_getsU (X : gX K cc nL own nm ret fr lo) {index : Nat} (hl0 : Cond.fieldLink own index "java/lang/Throwable" "UNASSIGNED_STACK" "[Ljava/lang/StackTraceElement;" ∈ lw_all) (hdg : decode cc pc = .ok (.getstatic index, 3)) (k : ∀ z : Option Nat, V K nL h (pc + 3) lv (va_rf z :: st)) : V K nL h pc lv st := by
  intro ls hl H locs cells slots rp
  rcases X.hW.2.2.2.2.2.2.2.2.1 with z | ⟨t, z⟩
  · exact va_gets X.hx X.hb z rp.2.1 X.hown (X.hts _ hl0) (fun _ x => x) hdg (k none ls hl H locs cells slots rp)
  · exact va_gets X.hx X.hb z rp.2.1 X.hown (X.hts _ hl0) (fun _ x => x) hdg (k (some t) ls hl H locs cells slots rp)
theorem v_getsS (X : gX K cc nL own nm ret fr lo) {index : Nat} (hl0 : Cond.fieldLink own index "java/lang/Throwable" "SUPPRESSED_SENTINEL" "Ljava/util/List;" ∈ lw_all) (hdg : decode cc pc = .ok (.getstatic index, 3)) (k : ∀ z : Option Nat, V K nL h (pc + 3) lv (va_rf z :: st)) : V K nL h pc lv st := by
  intro ls hl H locs cells slots rp
  rcases X.hW.2.2.2.2.2.2.2.2.2.1 with z | ⟨t, z⟩
  · exact va_gets X.hx X.hb z rp.2.1 X.hown (X.hts _ hl0) (fun _ x => x) hdg (k none ls hl H locs cells slots rp)
  · exact va_gets X.hx X.hb z rp.2.1 X.hown (X.hts _ hl0) (fun _ x => x) hdg (k (some t) ls hl H locs cells slots rp)
end
theorem pF_ok {cs : List Nat} {a k : Nat} {v : Value} {h : gH} {o : Nat × List Value} (e : h.1 a = .inr o) (hc : o.1 ∈ cs) (hk : k < o.2.length) : (pF cs a k v).1 h = some ((), (va_up h.1 a (.inr (o.1, o.2.set k v)), h.2)) := by
  unfold pF Mo.wr
  simp only [e]
  rw [if_pos ⟨hc, hk⟩]
  rfl
theorem pF_some1 {cs : List Nat} {a k : Nat} {v : Value} {h h' : gH} {u : Unit} (e : (pF cs a k v).1 h = some (u, h')) : ∃ o, h.1 a = .inr o ∧ o.1 ∈ cs ∧ k < o.2.length ∧ h' = (va_up h.1 a (.inr (o.1, o.2.set k v)), h.2) := by
  obtain ⟨c, e1, rfl⟩ := Mo.wr_some e
  cases ho : h.1 a with
  | inl x => rw [ho] at e1; cases e1
  | inr o =>
    rw [ho] at e1
    by_cases z : o.1 ∈ cs ∧ k < o.2.length
    · simp only [if_pos z] at e1
      cases e1
      exact ⟨o, rfl, z.1, z.2, rfl⟩
    · simp only [if_neg z] at e1
      cases e1
noncomputable def M_J0_init_2 (t : Nat) : Mo Unit := Mo.bind (pF [1] t 3 .null) (fun _ => Mo.bind (pF [1] t 2 .null) (fun _ => Mo.bind (pF [1] t 1 .null) (fun _ => Mo.bind (pF [1] t 0 .null) (fun _ => Mo.pure ()))))
noncomputable def D_J0 (t : Nat) (z1 z2 : Option Nat) : Mo Unit := Mo.bind (pF [1] t 0 (.ref t)) (fun _ => Mo.bind (pF [1] t 1 (va_rf z1)) (fun _ => Mo.bind (pF [1] t 2 (va_rf z2)) (fun _ => Mo.bind (pF [1] t 1 .null) (fun _ => Mo.bind (pF [1] t 3 .null) (fun _ => Mo.bind (pF [1] t 0 .null) (fun _ => Mo.bind (pF [1] t 2 .null) (fun _ => Mo.pure ())))))))
theorem va_up_up {f : Nat → gA} {a : Nat} {x y : gA} : va_up (va_up f a x) a y = va_up f a y := by
  funext q
  by_cases e : q = a <;> simp [va_up, e]
theorem va_up_at {f : Nat → gA} {a : Nat} {x : gA} : va_up f a x a = x := by simp [va_up]
theorem pF_bind {cs : List Nat} {a k c : Nat} {v : Value} {fs : List Value} {f : Nat → gA} {n : Nat × Nat} {g : Unit → Mo Unit} (hc : c ∈ cs) (hk : k < fs.length) : (Mo.bind (pF cs a k v) g).1 (va_up f a (.inr (c, fs)), n) = (g ()).1 (va_up f a (.inr (c, fs.set k v)), n) := by
  rw [Mo.bind_of (pF_ok (o := (c, fs)) va_up_at hc hk)]
  show (g ()).1 (va_up (va_up f a _) a _, n) = _
  rw [va_up_up]
theorem J0_same {t : Nat} {h h' : gH} {r : Unit} (e : (M_J0_init_2 t).1 h = some (r, h')) (z1 z2 : Option Nat) : (D_J0 t z1 z2).1 h = some (r, h') := by
  obtain ⟨u, h1, e1, e2⟩ := Mo.bind_some e
  obtain ⟨o, e3, e4, e5, rfl⟩ := pF_some1 e1
  have hh : h = (va_up h.1 t (.inr (o.1, o.2)), h.2) := by
    obtain ⟨f, n⟩ := h
    refine Prod.ext ?_ rfl
    funext q
    by_cases z : q = t
    · subst z; simp only [va_up_at]; exact e3
    · simp [va_up, z]
  have l3 : ∀ (k : Nat) (v : Value), 3 < (o.2.set k v).length := fun k v => by rw [List.length_set]; exact e5
  rw [← e]
  rw [hh]
  generalize h.1 = f
  generalize h.2 = n
  obtain ⟨c, fs⟩ := o
  unfold D_J0 M_J0_init_2
  have e5 : 3 < fs.length := e5
  rw [pF_bind e4 (by omega), pF_bind e4 (by simp; omega), pF_bind e4 (by simp; omega), pF_bind e4 (by simp; omega), pF_bind e4 (by simp; omega), pF_bind e4 (by simp; omega), pF_bind e4 (by simp; omega)]
  rw [pF_bind e4 (by omega), pF_bind e4 (by simp; omega), pF_bind e4 (by simp; omega), pF_bind e4 (by simp; omega)]
  congr 5
  refine congrArg (fun x => (Mo.pure ()).1 (va_up f t (.inr (c, x)), n)) ?_
  apply List.ext_getElem?
  intro i
  simp only [List.getElem?_set, List.length_set]
  by_cases i0 : 0 = i
  · subst i0; simp
  · by_cases i1 : 1 = i
    · subst i1; simp
    · by_cases i2 : 2 = i
      · subst i2; simp
      · by_cases i3 : 3 = i
        · subst i3; simp
        · simp [i0, i1, i2, i3]
theorem fp_J0_7_i : gFp "java/lang/Throwable" "<init>" 7 [1] 0 (.object "java/lang/Throwable") := by
  intro args s hts hN ci hc
  simp only [List.mem_cons, List.not_mem_nil, or_false] at hc
  subst hc
  exact ⟨RX2, TX2, 8, "java/lang/Throwable", gCl_X2, in_X2, by decide, Or.inl ⟨rfl, Or.inl (hts _ q207)⟩, fun _ h => h, rfl, fun D tys hK => gap_X2 hts hK⟩
theorem fp_J0_17_i : gFp "java/lang/Throwable" "<init>" 17 [1] 1 (.array (.object "java/lang/StackTraceElement")) := by
  intro args s hts hN ci hc
  simp only [List.mem_cons, List.not_mem_nil, or_false] at hc
  subst hc
  exact ⟨RX2, TX2, 8, "java/lang/Throwable", gCl_X2, in_X2, by decide, Or.inl ⟨rfl, Or.inl (hts _ q208)⟩, fun _ h => h, rfl, fun D tys hK => gap_X2 hts hK⟩
theorem fp_J0_24_i : gFp "java/lang/Throwable" "<init>" 24 [1] 2 (.object "java/util/List") := by
  intro args s hts hN ci hc
  simp only [List.mem_cons, List.not_mem_nil, or_false] at hc
  subst hc
  exact ⟨RX2, TX2, 8, "java/lang/Throwable", gCl_X2, in_X2, by decide, Or.inl ⟨rfl, Or.inl (hts _ q209)⟩, fun _ h => h, rfl, fun D tys hK => gap_X2 hts hK⟩
theorem fp_J0_31_i : gFp "java/lang/Throwable" "<init>" 31 [1] 3 (.object "java/lang/String") := by
  intro args s hts hN ci hc
  simp only [List.mem_cons, List.not_mem_nil, or_false] at hc
  subst hc
  exact ⟨RX2, TX2, 8, "java/lang/Throwable", gCl_X2, in_X2, by decide, Or.inl ⟨rfl, Or.inl (hts _ q206)⟩, fun _ h => h, rfl, fun D tys hK => gap_X2 hts hK⟩
def dkwJ0_init_2_2 : List UInt8 := [44, 181, 0, 7, 29, 154, 0, 8, 42, 1, 181, 0, 24, 177]
abbrev dktJ0_init_2_2 : List UInt8 := dkwJ0_init_2_2 ++ []
def dkwJ0_init_2_1 : List UInt8 := [21, 4, 153, 0, 11, 42, 182, 0, 27, 87, 167, 0, 8, 42, 1, 181, 0, 17, 42, 43, 181, 0, 31, 42]
abbrev dktJ0_init_2_1 : List UInt8 := dkwJ0_init_2_1 ++ dktJ0_init_2_2
def dkwJ0_init_2_0 : List UInt8 := [42, 183, 0, 1, 42, 42, 181, 0, 7, 42, 178, 0, 13, 181, 0, 17, 42, 178, 0, 20, 181, 0, 24]
abbrev dktJ0_init_2_0 : List UInt8 := dkwJ0_init_2_0 ++ dktJ0_init_2_1
theorem dksJ0_init_2_0 : cJ0_init_2.data.toList.drop 0 = dktJ0_init_2_0 := by decide +kernel
theorem dksJ0_init_2_1 : cJ0_init_2.data.toList.drop 23 = dktJ0_init_2_1 := dk_seg dksJ0_init_2_0 23 rfl rfl
theorem dksJ0_init_2_2 : cJ0_init_2.data.toList.drop 47 = dktJ0_init_2_2 := dk_seg dksJ0_init_2_1 24 rfl rfl
theorem dJ0_init_2_0 : decode cJ0_init_2 0 = .ok (.aload_n 0, 1) := dk_42 (dk_at dksJ0_init_2_0 0 rfl rfl)
theorem dJ0_init_2_1 : decode cJ0_init_2 1 = .ok (.invokespecial 1, 3) := dk_183 0 1 (dk_at dksJ0_init_2_0 1 rfl rfl)
theorem dJ0_init_2_4 : decode cJ0_init_2 4 = .ok (.aload_n 0, 1) := dk_42 (dk_at dksJ0_init_2_0 4 rfl rfl)
theorem dJ0_init_2_5 : decode cJ0_init_2 5 = .ok (.aload_n 0, 1) := dk_42 (dk_at dksJ0_init_2_0 5 rfl rfl)
theorem dJ0_init_2_6 : decode cJ0_init_2 6 = .ok (.putfield 7, 3) := dk_181 0 7 (dk_at dksJ0_init_2_0 6 rfl rfl)
theorem dJ0_init_2_9 : decode cJ0_init_2 9 = .ok (.aload_n 0, 1) := dk_42 (dk_at dksJ0_init_2_0 9 rfl rfl)
theorem dJ0_init_2_10 : decode cJ0_init_2 10 = .ok (.getstatic 13, 3) := dk_178 0 13 (dk_at dksJ0_init_2_0 10 rfl rfl)
theorem dJ0_init_2_13 : decode cJ0_init_2 13 = .ok (.putfield 17, 3) := dk_181 0 17 (dk_at dksJ0_init_2_0 13 rfl rfl)
theorem dJ0_init_2_16 : decode cJ0_init_2 16 = .ok (.aload_n 0, 1) := dk_42 (dk_at dksJ0_init_2_0 16 rfl rfl)
theorem dJ0_init_2_17 : decode cJ0_init_2 17 = .ok (.getstatic 20, 3) := dk_178 0 20 (dk_at dksJ0_init_2_0 17 rfl rfl)
theorem dJ0_init_2_20 : decode cJ0_init_2 20 = .ok (.putfield 24, 3) := dk_181 0 24 (dk_at dksJ0_init_2_0 20 rfl rfl)
theorem dJ0_init_2_23 : decode cJ0_init_2 23 = .ok (.iload 4, 2) := dk_21 4 (dk_at dksJ0_init_2_1 0 rfl rfl)
theorem dJ0_init_2_25 : decode cJ0_init_2 25 = .ok (.ifCond .eq 11, 3) := dk_153 0 11 (dk_at dksJ0_init_2_1 2 rfl rfl)
theorem dJ0_init_2_28 : decode cJ0_init_2 28 = .ok (.aload_n 0, 1) := dk_42 (dk_at dksJ0_init_2_1 5 rfl rfl)
theorem dJ0_init_2_29 : decode cJ0_init_2 29 = .ok (.invokevirtual 27, 3) := dk_182 0 27 (dk_at dksJ0_init_2_1 6 rfl rfl)
theorem dJ0_init_2_32 : decode cJ0_init_2 32 = .ok (.pop, 1) := dk_87 (dk_at dksJ0_init_2_1 9 rfl rfl)
theorem dJ0_init_2_33 : decode cJ0_init_2 33 = .ok (.goto 8, 3) := dk_167 0 8 (dk_at dksJ0_init_2_1 10 rfl rfl)
theorem dJ0_init_2_36 : decode cJ0_init_2 36 = .ok (.aload_n 0, 1) := dk_42 (dk_at dksJ0_init_2_1 13 rfl rfl)
theorem dJ0_init_2_37 : decode cJ0_init_2 37 = .ok (.aconst_null, 1) := dk_1 (dk_at dksJ0_init_2_1 14 rfl rfl)
theorem dJ0_init_2_38 : decode cJ0_init_2 38 = .ok (.putfield 17, 3) := dk_181 0 17 (dk_at dksJ0_init_2_1 15 rfl rfl)
theorem dJ0_init_2_41 : decode cJ0_init_2 41 = .ok (.aload_n 0, 1) := dk_42 (dk_at dksJ0_init_2_1 18 rfl rfl)
theorem dJ0_init_2_42 : decode cJ0_init_2 42 = .ok (.aload_n 1, 1) := dk_43 (dk_at dksJ0_init_2_1 19 rfl rfl)
theorem dJ0_init_2_43 : decode cJ0_init_2 43 = .ok (.putfield 31, 3) := dk_181 0 31 (dk_at dksJ0_init_2_1 20 rfl rfl)
theorem dJ0_init_2_46 : decode cJ0_init_2 46 = .ok (.aload_n 0, 1) := dk_42 (dk_at dksJ0_init_2_1 23 rfl rfl)
theorem dJ0_init_2_47 : decode cJ0_init_2 47 = .ok (.aload_n 2, 1) := dk_44 (dk_at dksJ0_init_2_2 0 rfl rfl)
theorem dJ0_init_2_48 : decode cJ0_init_2 48 = .ok (.putfield 7, 3) := dk_181 0 7 (dk_at dksJ0_init_2_2 1 rfl rfl)
theorem dJ0_init_2_51 : decode cJ0_init_2 51 = .ok (.iload_n 3, 1) := dk_29 (dk_at dksJ0_init_2_2 4 rfl rfl)
theorem dJ0_init_2_52 : decode cJ0_init_2 52 = .ok (.ifCond .ne 8, 3) := dk_154 0 8 (dk_at dksJ0_init_2_2 5 rfl rfl)
theorem dJ0_init_2_55 : decode cJ0_init_2 55 = .ok (.aload_n 0, 1) := dk_42 (dk_at dksJ0_init_2_2 8 rfl rfl)
theorem dJ0_init_2_56 : decode cJ0_init_2 56 = .ok (.aconst_null, 1) := dk_1 (dk_at dksJ0_init_2_2 9 rfl rfl)
theorem dJ0_init_2_57 : decode cJ0_init_2 57 = .ok (.putfield 24, 3) := dk_181 0 24 (dk_at dksJ0_init_2_2 10 rfl rfl)
theorem dJ0_init_2_60 : decode cJ0_init_2 60 = .ok (.return_, 1) := dk_177 (dk_at dksJ0_init_2_2 13 rfl rfl)
theorem dn_J0_init_2 : yJ0_init_2.cls ≠ "java/lang/invoke/MethodHandle" ∧ yJ0_init_2.cls ≠ "java/lang/invoke/VarHandle" ∧ (parseMethodDescriptor yJ0_init_2.desc).map (fun d => d.parameters.length) = some 4 := by decide +kernel
theorem ct_J0_init_2 (G : gG) (t : Nat) : gCt G yJ0_init_2 cJ0_init_2 5 none 1 20 [.ref t, .null, .null, .int 0, .int 0] (M_J0_init_2 t) (fun _ : Unit => none) := by
  refine gCt.of (by decide) (Nat.le_of_ble_eq_true rfl) (fun K r hG X hd ho => ?_)
  subst hG
  have X : gX K cJ0_init_2 5 "java/lang/Throwable" "<init>" none 1 20 := X
  have hle : gLe (kh1 K) (kh1 K) := gLe.rf
  show V K 5 (kh0 K) 0 [(0, .ref t), (1, .null), (2, .null), (3, .int 0), (4, .int 0)] []
  generalize kh0 K = h at hd ⊢
  have hD := J0_same hd
  clear hd
  refine v_aload_n X dJ0_init_2_0 0 0 rfl rfl ?_
  refine v_objInit X q177 q152 q153 (Nat.le_of_ble_eq_true rfl) dJ0_init_2_1 (by decide) (by decide) ?_
  refine v_aload_n X dJ0_init_2_4 0 0 rfl rfl ?_
  refine v_aload_n X dJ0_init_2_5 0 0 rfl rfl ?_
  have hg : ∀ h : gH, (∀ z1 z2, (Mo.bind (pF [1] t 1 (va_rf z1)) (fun _ => Mo.bind (pF [1] t 2 (va_rf z2)) (fun _ => Mo.bind (pF [1] t 1 .null) (fun _ => Mo.bind (pF [1] t 3 .null) (fun _ => Mo.bind (pF [1] t 0 .null) (fun _ => Mo.bind (pF [1] t 2 .null) (fun _ => Mo.pure ()))))))).1 h = some (r, kh1 K)) → V K 5 h 9 [(0, .ref t), (1, .null), (2, .null), (3, .int 0), (4, .int 0)] [] := by
    intro h hD
    refine v_aload_n X dJ0_init_2_9 0 0 rfl rfl ?_
    refine v_getsU X q178 dJ0_init_2_10 (fun z1 => ?_)
    have hD := hD z1
    have hg2 : ∀ h : gH, (∀ z2, (Mo.bind (pF [1] t 2 (va_rf z2)) (fun _ => Mo.bind (pF [1] t 1 .null) (fun _ => Mo.bind (pF [1] t 3 .null) (fun _ => Mo.bind (pF [1] t 0 .null) (fun _ => Mo.bind (pF [1] t 2 .null) (fun _ => Mo.pure ())))))).1 h = some (r, kh1 K)) → V K 5 h 16 [(0, .ref t), (1, .null), (2, .null), (3, .int 0), (4, .int 0)] [] := by
      intro h hD
      refine v_aload_n X dJ0_init_2_16 0 0 rfl rfl ?_
      refine v_getsS X q180 dJ0_init_2_17 (fun z2 => ?_)
      have hd := hD z2
      refine v_put (v := va_rf z2) X hd fp_J0_24_i (nar_rf _ rfl) (fits_rf _ rfl) dJ0_init_2_20 (fun h hd => ?_)
      refine v_iload X dJ0_init_2_23 4 rfl ?_
      refine v_if_eq (tgt := 36) X dJ0_init_2_25 (by decide) (fun q => ?_) (fun q => absurd rfl q)
      refine v_aload_n X dJ0_init_2_36 0 0 rfl rfl ?_
      refine v_null X dJ0_init_2_37 ?_
      refine v_put (v := .null) X hd fp_J0_17_i rfl rfl dJ0_init_2_38 (fun h hd => ?_)
      refine v_aload_n X dJ0_init_2_41 0 0 rfl rfl ?_
      refine v_anull_n X dJ0_init_2_42 1 1 rfl rfl ?_
      refine v_put (v := .null) X hd fp_J0_31_i rfl rfl dJ0_init_2_43 (fun h hd => ?_)
      refine v_aload_n X dJ0_init_2_46 0 0 rfl rfl ?_
      refine v_anull_n X dJ0_init_2_47 2 2 rfl rfl ?_
      refine v_put (v := .null) X hd fp_J0_7_i rfl rfl dJ0_init_2_48 (fun h hd => ?_)
      refine v_iload_n X dJ0_init_2_51 3 3 rfl rfl ?_
      refine v_if_ne (tgt := 60) X dJ0_init_2_52 (by decide) (fun q => absurd rfl q) (fun q => ?_)
      refine v_aload_n X dJ0_init_2_55 0 0 rfl rfl ?_
      refine v_null X dJ0_init_2_56 ?_
      refine v_put (v := .null) X hd fp_J0_24_i rfl rfl dJ0_init_2_57 (fun h hd => ?_)
      exact v_vret X hd ho dJ0_init_2_60
    obtain ⟨u, h1, e1, -⟩ := Mo.bind_some (hD none)
    have hD2 : ∀ z2, (Mo.bind (pF [1] t 1 (va_rf z1)) (fun _ => Mo.only h1 (Mo.bind (pF [1] t 2 (va_rf z2)) (fun _ => Mo.bind (pF [1] t 1 .null) (fun _ => Mo.bind (pF [1] t 3 .null) (fun _ => Mo.bind (pF [1] t 0 .null) (fun _ => Mo.bind (pF [1] t 2 .null) (fun _ => Mo.pure ())))))))).1 h = some (r, kh1 K) := by
      intro z2
      have := hD z2
      rw [Mo.bind_of e1] at this ⊢
      exact Mo.only_at.trans this
    refine v_put (v := va_rf z1) X (hD2 none) fp_J0_17_i (nar_rf _ rfl) (fits_rf _ rfl) dJ0_init_2_13 (fun h hd => ?_)
    obtain ⟨rfl, -⟩ := Mo.only_some hd
    exact hg2 _ (fun z2 => by have := hD z2; rw [Mo.bind_of e1] at this; exact this)
  obtain ⟨u, h1, e1, -⟩ := Mo.bind_some (hD none none)
  have hD2 : (Mo.bind (pF [1] t 0 (.ref t)) (fun _ => Mo.only h1 (Mo.bind (pF [1] t 1 (va_rf none)) (fun _ => Mo.bind (pF [1] t 2 (va_rf none)) (fun _ => Mo.bind (pF [1] t 1 .null) (fun _ => Mo.bind (pF [1] t 3 .null) (fun _ => Mo.bind (pF [1] t 0 .null) (fun _ => Mo.bind (pF [1] t 2 .null) (fun _ => Mo.pure ()))))))))).1 h = some (r, kh1 K) := by
    have := hD none none
    unfold D_J0 at this
    rw [Mo.bind_of e1] at this ⊢
    exact Mo.only_at.trans this
  refine v_put (v := .ref t) X hD2 fp_J0_7_i rfl rfl dJ0_init_2_6 (fun h hd => ?_)
  obtain ⟨rfl, -⟩ := Mo.only_some hd
  exact hg _ (fun z1 z2 => by have := hD z1 z2; unfold D_J0 at this; rw [Mo.bind_of e1] at this; exact this)
def dkwJ1_init_0 : List UInt8 := [42, 43, 44, 29, 21, 4, 183, 0, 16, 177]
abbrev dktJ1_init_0 : List UInt8 := dkwJ1_init_0 ++ []
theorem dksJ1_init_0 : cJ1_init.data.toList.drop 0 = dktJ1_init_0 := by decide +kernel
theorem dJ1_init_0 : decode cJ1_init 0 = .ok (.aload_n 0, 1) := dk_42 (dk_at dksJ1_init_0 0 rfl rfl)
theorem dJ1_init_1 : decode cJ1_init 1 = .ok (.aload_n 1, 1) := dk_43 (dk_at dksJ1_init_0 1 rfl rfl)
theorem dJ1_init_2 : decode cJ1_init 2 = .ok (.aload_n 2, 1) := dk_44 (dk_at dksJ1_init_0 2 rfl rfl)
theorem dJ1_init_3 : decode cJ1_init 3 = .ok (.iload_n 3, 1) := dk_29 (dk_at dksJ1_init_0 3 rfl rfl)
theorem dJ1_init_4 : decode cJ1_init 4 = .ok (.iload 4, 2) := dk_21 4 (dk_at dksJ1_init_0 4 rfl rfl)
theorem dJ1_init_6 : decode cJ1_init 6 = .ok (.invokespecial 16, 3) := dk_183 0 16 (dk_at dksJ1_init_0 6 rfl rfl)
theorem dJ1_init_9 : decode cJ1_init 9 = .ok (.return_, 1) := dk_177 (dk_at dksJ1_init_0 9 rfl rfl)
theorem dn_J1_init : yJ1_init.cls ≠ "java/lang/invoke/MethodHandle" ∧ yJ1_init.cls ≠ "java/lang/invoke/VarHandle" ∧ (parseMethodDescriptor yJ1_init.desc).map (fun d => d.parameters.length) = some 4 := by decide +kernel
noncomputable def M_J1_init (t : Nat) : Mo Unit := Mo.bind (M_J0_init_2 t) (fun _ => Mo.pure ())
theorem ct_J1_init (G : gG) (t : Nat) : gCt G yJ1_init cJ1_init 5 none 2 44 [.ref t, .null, .null, .int 0, .int 0] (M_J1_init t) (fun _ : Unit => none) := by
  refine gCt.of (by decide) (Nat.le_of_ble_eq_true rfl) (fun K r hG X hd ho => ?_)
  subst hG
  have X : gX K cJ1_init 5 "java/lang/Exception" "<init>" none 2 44 := X
  have hle : gLe (kh1 K) (kh1 K) := gLe.rf
  show V K 5 (kh0 K) 0 [(0, .ref t), (1, .null), (2, .null), (3, .int 0), (4, .int 0)] []
  generalize kh0 K = h at hd ⊢
  unfold M_J1_init at hd
  refine v_aload_n X dJ1_init_0 0 0 rfl rfl ?_
  refine v_anull_n X dJ1_init_1 1 1 rfl rfl ?_
  refine v_anull_n X dJ1_init_2 2 2 rfl rfl ?_
  refine v_iload_n X dJ1_init_3 3 3 rfl rfl ?_
  refine v_iload X dJ1_init_4 4 rfl ?_
  refine v_callI X hd hle (ct_J0_init_2 _ t) q200 q110 q198 q199 rfl dn_J0_init_2 rfl ⟨by decide, by decide⟩ rfl (Nat.le_of_ble_eq_true rfl) dJ1_init_6 (fun v h hd => ?_)
  exact v_vret X hd ho dJ1_init_9
def dkwX2_init_0 : List UInt8 := [42, 1, 1, 3, 3, 183, 0, 1, 177]
abbrev dktX2_init_0 : List UInt8 := dkwX2_init_0 ++ []
theorem dksX2_init_0 : cX2_init.data.toList.drop 0 = dktX2_init_0 := by decide +kernel
theorem dX2_init_0 : decode cX2_init 0 = .ok (.aload_n 0, 1) := dk_42 (dk_at dksX2_init_0 0 rfl rfl)
theorem dX2_init_1 : decode cX2_init 1 = .ok (.aconst_null, 1) := dk_1 (dk_at dksX2_init_0 1 rfl rfl)
theorem dX2_init_2 : decode cX2_init 2 = .ok (.aconst_null, 1) := dk_1 (dk_at dksX2_init_0 2 rfl rfl)
theorem dX2_init_3 : decode cX2_init 3 = .ok (.iconst 0, 1) := dk_3 (dk_at dksX2_init_0 3 rfl rfl)
theorem dX2_init_4 : decode cX2_init 4 = .ok (.iconst 0, 1) := dk_3 (dk_at dksX2_init_0 4 rfl rfl)
theorem dX2_init_5 : decode cX2_init 5 = .ok (.invokespecial 1, 3) := dk_183 0 1 (dk_at dksX2_init_0 5 rfl rfl)
theorem dX2_init_8 : decode cX2_init 8 = .ok (.return_, 1) := dk_177 (dk_at dksX2_init_0 8 rfl rfl)
theorem dn_X2_init : yX2_init.cls ≠ "java/lang/invoke/MethodHandle" ∧ yX2_init.cls ≠ "java/lang/invoke/VarHandle" ∧ (parseMethodDescriptor yX2_init.desc).map (fun d => d.parameters.length) = some 0 := by decide +kernel
noncomputable def M_X2_init (t : Nat) : Mo Unit := Mo.bind (M_J1_init t) (fun _ => Mo.pure ())
theorem ct_X2_init (G : gG) (t : Nat) : gCt G yX2_init cX2_init 1 none 3 68 [.ref t] (M_X2_init t) (fun _ : Unit => none) := by
  refine gCt.of (by decide) (Nat.le_of_ble_eq_true rfl) (fun K r hG X hd ho => ?_)
  subst hG
  have X : gX K cX2_init 1 "BitingDoors$Fault" "<init>" none 3 68 := X
  have hle : gLe (kh1 K) (kh1 K) := gLe.rf
  show V K 1 (kh0 K) 0 [(0, .ref t)] []
  generalize kh0 K = h at hd ⊢
  unfold M_X2_init at hd
  refine v_aload_n X dX2_init_0 0 0 rfl rfl ?_
  refine v_null X dX2_init_1 ?_
  refine v_null X dX2_init_2 ?_
  refine v_iconst (v := 0) X dX2_init_3 (by decide) ?_
  refine v_iconst (v := 0) X dX2_init_4 (by decide) ?_
  refine v_callI X hd hle (ct_J1_init _ t) q197 q111 q195 q196 rfl dn_J1_init rfl ⟨by decide, by decide⟩ rfl (Nat.le_of_ble_eq_true rfl) dX2_init_5 (fun v h hd => ?_)
  exact v_vret X hd ho dX2_init_8
