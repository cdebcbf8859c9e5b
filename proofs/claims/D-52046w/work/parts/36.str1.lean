/-! String: its small methods. -/
section
set_option maxRecDepth 100000
abbrev kJ12_coder : aK := (yJ12_coder, cJ12_coder, 1, (Option.some Jvm.ClassFile.FieldType.byte), [])
theorem hcJ12_coder : kJ12_coder.1.cls ≠ "java/lang/invoke/MethodHandle" ∧ kJ12_coder.1.cls ≠ "java/lang/invoke/VarHandle" ∧ (parseMethodDescriptor kJ12_coder.1.desc).map (fun d => d.parameters.length) = some 0 := ⟨by decide, by decide, by decide +kernel⟩
theorem cs_coder (G : aG) (h : hH) (a v n : Nat) (w z : Int32) (f : Nat → Value) (hA : h.2 a = some (hob 29 [.ref v, .int 0, .int w, .int z])) (hV : h.2 v = some (har 2 n f)) (hn : n < 2 ^ 31) : Con G kJ12_coder [.ref a] h ((1, 0, 0, 0), (fun r h1 => r = some (.int (0)) ∧ h = h1), nX) := by
  refine Con.of (plainFor_of_name rfl) rfl (Nat.le_of_ble_eq_true rfl) ?_
  refine AW.eq (lv2 := [(0, .ref a)]) (s2 := []) rfl rfl rfl rfl rfl ?_
  refine aw_know (fun gd _ => ?_)
  refine aw_gets (n := 3) (v := .int 1) dJ12_coder_0 32 rfl q590 rfl gd.2.2.2.2.2.2.2.1.2.2.1.2.1 rfl ?_
  refine aw_if_eq (n := 6) (tgt := 13) dJ12_coder_3 (by decide) rfl (fun c_3 => ?_) (fun c_3 => ?_)
  · skip
    exact absurd c_3 (by decide +kernel)
  · skip
    refine aw_aload_n (n := 7) dJ12_coder_6 rfl 0 rfl rfl ?_
    refine aw_getf (n := 10) (v := .int 0) (C0 := RJ12) (T := TJ12) dJ12_coder_7 rfl 1 q646 (Or.inl rfl) hA rfl rfl ?_
    refine aw_goto (tgt := 14) dJ12_coder_10 (by decide) ?_
    exact aw_zret dJ12_coder_14 rfl (by decide) ⟨rfl, rfl⟩ ⟨Nat.zero_le _, Nat.zero_le _⟩

abbrev kJ12_isLatin1 : aK := (yJ12_isLatin1, cJ12_isLatin1, 1, (Option.some Jvm.ClassFile.FieldType.boolean), [])
theorem hcJ12_isLatin1 : kJ12_isLatin1.1.cls ≠ "java/lang/invoke/MethodHandle" ∧ kJ12_isLatin1.1.cls ≠ "java/lang/invoke/VarHandle" ∧ (parseMethodDescriptor kJ12_isLatin1.1.desc).map (fun d => d.parameters.length) = some 0 := ⟨by decide, by decide, by decide +kernel⟩
theorem cs_isLatin1 (G : aG) (h : hH) (a v n : Nat) (w z : Int32) (f : Nat → Value) (hA : h.2 a = some (hob 29 [.ref v, .int 0, .int w, .int z])) (hV : h.2 v = some (har 2 n f)) (hn : n < 2 ^ 31) : Con G kJ12_isLatin1 [.ref a] h ((1, 0, 0, 0), (fun r h1 => r = some (.int (1)) ∧ h = h1), nX) := by
  refine Con.of (plainFor_of_name rfl) rfl (Nat.le_of_ble_eq_true rfl) ?_
  refine AW.eq (lv2 := [(0, .ref a)]) (s2 := []) rfl rfl rfl rfl rfl ?_
  refine aw_know (fun gd _ => ?_)
  refine aw_gets (n := 3) (v := .int 1) dJ12_isLatin1_0 32 rfl q590 rfl gd.2.2.2.2.2.2.2.1.2.2.1.2.1 rfl ?_
  refine aw_if_eq (n := 6) (tgt := 17) dJ12_isLatin1_3 (by decide) rfl (fun c_3 => ?_) (fun c_3 => ?_)
  · skip
    exact absurd c_3 (by decide +kernel)
  · skip
    refine aw_aload_n (n := 7) dJ12_isLatin1_6 rfl 0 rfl rfl ?_
    refine aw_getf (n := 10) (v := .int 0) (C0 := RJ12) (T := TJ12) dJ12_isLatin1_7 rfl 1 q646 (Or.inl rfl) hA rfl rfl ?_
    refine aw_if_ne (n := 13) (tgt := 17) dJ12_isLatin1_10 (by decide) rfl (fun c_10 => ?_) (fun c_10 => ?_)
    · skip
      exact absurd c_10 (by decide +kernel)
    · skip
      refine aw_iconst (n := 14) (v := 1) dJ12_isLatin1_13 (by decide) rfl ?_
      refine aw_goto (tgt := 18) dJ12_isLatin1_14 (by decide) ?_
      exact aw_zret dJ12_isLatin1_18 rfl (by decide) ⟨rfl, rfl⟩ ⟨Nat.zero_le _, Nat.zero_le _⟩

theorem shr0 (x : Int32) : x >>> ((0 : Int32) &&& 31) = x := by rw [show (0 : Int32) &&& 31 = 0 from by decide]; exact Int32.shiftRight_zero
abbrev kJ12_length : aK := (yJ12_length, cJ12_length, 1, (Option.some Jvm.ClassFile.FieldType.int), [])
theorem hcJ12_length : kJ12_length.1.cls ≠ "java/lang/invoke/MethodHandle" ∧ kJ12_length.1.cls ≠ "java/lang/invoke/VarHandle" ∧ (parseMethodDescriptor kJ12_length.1.desc).map (fun d => d.parameters.length) = some 0 := ⟨by decide, by decide, by decide +kernel⟩
theorem cs_length (G : aG) (h : hH) (a v n : Nat) (w z : Int32) (f : Nat → Value) (hA : h.2 a = some (hob 29 [.ref v, .int 0, .int w, .int z])) (hV : h.2 v = some (har 2 n f)) (hn : n < 2 ^ 31) : Con G kJ12_length [.ref a] h ((2, 20, 0, 0), (fun r h1 => r = some (.int (nI n)) ∧ h = h1), nX) := by
  refine Con.of (plainFor_of_name rfl) rfl (Nat.le_of_ble_eq_true rfl) ?_
  refine AW.eq (lv2 := [(0, .ref a)]) (s2 := []) rfl rfl rfl rfl rfl ?_
  refine aw_know (fun gd _ => ?_)
  refine aw_aload_n (n := 1) dJ12_length_0 rfl 0 rfl rfl ?_
  refine aw_getf (n := 4) (v := .ref v) (C0 := RJ12) (T := TJ12) dJ12_length_1 rfl 0 q645 (Or.inl rfl) hA rfl rfl ?_
  refine aw_alen (n := 5) (v := nI n) dJ12_length_4 rfl hV rfl rfl ?_
  refine aw_aload_n (n := 6) dJ12_length_5 rfl 0 rfl rfl ?_
  refine aw_callV (n := 9) (C0 := RJ12) (As := []) (rest := [.int (nI n)]) (K2 := kJ12_coder) dJ12_length_6 q586 q587 q588 q122 q589 ⟨rfl, hcJ12_coder⟩ rfl hA (cs_coder G h a v n w z f hA hV hn) rfl (Nat.le_of_ble_eq_true rfl) ⟨Nat.le_of_ble_eq_true rfl, Nat.le_of_ble_eq_true rfl⟩ ⟨Nat.zero_le _, Nat.zero_le _⟩ (fun _ _ _ z => z.elim) rfl (fun r_6 h_6 q_6 => ?_)
  obtain ⟨rfl, rfl⟩ := q_6
  refine AW.sts (st' := [.int 0, .int (nI n)]) rfl ?_
  refine aw_ishr (n := 10) dJ12_length_9 rfl ?_
  exact aw_iret dJ12_length_10 rfl ⟨by rw [shr0], rfl⟩ ⟨Nat.zero_le _, Nat.zero_le _⟩

end
