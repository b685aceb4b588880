set_option maxRecDepth 100000
section
variable {K : gK} {cc : ByteArray} {nL : Nat} {own nm : String} {ret : Option FieldType} {fr lo : Nat} {h : gH} {pc : Nat} {lv : List (Nat × Value)} {st : List Value}
theorem v_getsN0 (X : gX K cc nL own nm ret fr lo) {index : Nat} (hl0 : (own, index, "BitingDoors", "STEP_X", "[I", "BitingDoors") ∈ gNF) (hdg : decode cc pc = .ok (.getstatic index, 3)) (k : V K nL h (pc + 3) lv (.ref (kG K).2.2.2.2.2.1 :: st)) : V K nL h pc lv st :=
  fun ls hl H locs cells slots rp => va_getsN X.hx X.hb X.hW.2.2.2.1.1 rp.2.1 X.hown (va_Nw.use rfl (X.hW.2.2.1.1 (own, index, "BitingDoors", "STEP_X", "[I", "BitingDoors") hl0)) (fun _ x => x) hdg (k ls hl H locs cells slots rp)
theorem v_getsN1 (X : gX K cc nL own nm ret fr lo) {index : Nat} (hl0 : (own, index, "BitingDoors", "STEP_Y", "[I", "BitingDoors") ∈ gNF) (hdg : decode cc pc = .ok (.getstatic index, 3)) (k : V K nL h (pc + 3) lv (.ref (kG K).2.2.2.2.2.2 :: st)) : V K nL h pc lv st :=
  fun ls hl H locs cells slots rp => va_getsN X.hx X.hb X.hW.2.2.2.2.1.1 rp.2.1 X.hown (va_Nw.use rfl (X.hW.2.2.1.1 (own, index, "BitingDoors", "STEP_Y", "[I", "BitingDoors") hl0)) (fun _ x => x) hdg (k ls hl H locs cells slots rp)
end
