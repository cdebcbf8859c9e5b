/-! String.charAt. -/
section
set_option maxRecDepth 100000
theorem chr_all : ∀ k : Nat, k < 128 → ((nI k &&& 255).toUInt32 % 65536).toInt32 = nI k ∧ (nI k).toUInt32.toUInt16.toUInt32.toInt32 = nI k := by decide +kernel
theorem chr_nar {k : Nat} (h : k < 128) : narrow .char (.int (nI k)) = .int (nI k) := congrArg Value.int (chr_all k h).2
abbrev kJ17_charAt : aK := (yJ17_charAt, cJ17_charAt, 2, (Option.some Jvm.ClassFile.FieldType.char), [])
theorem hcJ17_charAt : kJ17_charAt.1.cls ≠ "java/lang/invoke/MethodHandle" ∧ kJ17_charAt.1.cls ≠ "java/lang/invoke/VarHandle" ∧ (parseMethodDescriptor kJ17_charAt.1.desc).map (fun d => d.parameters.length) = some 2 := ⟨by decide, by decide, by decide +kernel⟩
theorem cs_l1 (G : aG) (h : hH) (v n : Nat) (f : Nat → Value) (hV : h.2 v = some (har 2 n f)) (hn : n < 2 ^ 31) (j k : Nat) (hj : j < n) (hk : k < 128) (hf : f j = .int (nI k)) : Con G kJ17_charAt [.ref v, .int (nI j)] h ((3, 43, 0, 0), (fun r h1 => r = some (.int (nI k)) ∧ h = h1), nX) := by
  refine Con.of (plainFor_of_name rfl) rfl (Nat.le_of_ble_eq_true rfl) ?_
  refine AW.eq (lv2 := [(0, .ref v), (1, .int (nI j))]) (s2 := []) rfl rfl rfl rfl rfl ?_
  refine aw_iload_n (n := 1) dJ17_charAt_0 rfl 1 rfl rfl ?_
  refine aw_aload_n (n := 2) dJ17_charAt_1 rfl 0 rfl rfl ?_
  refine aw_alen (n := 3) (v := nI n) dJ17_charAt_2 rfl hV rfl rfl ?_
  refine aw_callS (n := 6) (As := [.int (nI j), .int (nI n)]) (rest := []) (K2 := kJ12_checkIndex) dJ17_charAt_3 q673 q447 q122 q448 hcJ12_checkIndex (cs_sci G h j n hj hn) rfl (Nat.le_of_ble_eq_true rfl) ⟨Nat.le_of_ble_eq_true rfl, Nat.le_of_ble_eq_true rfl⟩ ⟨Nat.zero_le _, Nat.zero_le _⟩ (fun _ _ _ z => z.elim) rfl (fun r_3 h_3 q_3 => ?_)
  obtain ⟨rfl, rfl⟩ := q_3
  refine AW.sts (st' := []) rfl ?_
  refine aw_aload_n (n := 7) dJ17_charAt_6 rfl 0 rfl rfl ?_
  refine aw_iload_n (n := 8) dJ17_charAt_7 rfl 1 rfl rfl ?_
  refine aw_bald (n := 9) (v := .int (nI k)) dJ17_charAt_8 rfl j rfl hV (by omega) hn hf rfl ?_
  refine aw_sipush (n := 12) (v := 255) dJ17_charAt_9 (by decide) rfl ?_
  refine aw_iand (n := 13) dJ17_charAt_12 rfl ?_
  refine aw_i2c (n := 14) dJ17_charAt_13 rfl rfl ?_
  refine AW.sts (st' := [.int (nI k)]) (by rw [(chr_all k hk).1]) ?_
  exact aw_zret dJ17_charAt_14 rfl (chr_nar hk) ⟨rfl, rfl⟩ ⟨Nat.zero_le _, Nat.zero_le _⟩

abbrev kJ12_charAt : aK := (yJ12_charAt, cJ12_charAt, 2, (Option.some Jvm.ClassFile.FieldType.char), [])
theorem hcJ12_charAt : kJ12_charAt.1.cls ≠ "java/lang/invoke/MethodHandle" ∧ kJ12_charAt.1.cls ≠ "java/lang/invoke/VarHandle" ∧ (parseMethodDescriptor kJ12_charAt.1.desc).map (fun d => d.parameters.length) = some 1 := ⟨by decide, by decide, by decide +kernel⟩
theorem cs_charAt (G : aG) (h : hH) (a v n : Nat) (w z : Int32) (f : Nat → Value) (hA : h.2 a = some (hob 29 [.ref v, .int 0, .int w, .int z])) (hV : h.2 v = some (har 2 n f)) (hn : n < 2 ^ 31) (j k : Nat) (hj : j < n) (hk : k < 128) (hf : f j = .int (nI k)) : Con G kJ12_charAt [.ref a, .int (nI j)] h ((4, 64, 0, 0), (fun r h1 => r = some (.int (nI k)) ∧ h = h1), nX) := by
  refine Con.of (plainFor_of_name rfl) rfl (Nat.le_of_ble_eq_true rfl) ?_
  refine AW.eq (lv2 := [(0, .ref a), (1, .int (nI j))]) (s2 := []) rfl rfl rfl rfl rfl ?_
  refine aw_know (fun gd _ => ?_)
  refine aw_aload_n (n := 1) dJ12_charAt_0 rfl 0 rfl rfl ?_
  refine aw_callV (n := 4) (C0 := RJ12) (As := []) (rest := []) (K2 := kJ12_isLatin1) dJ12_charAt_1 q666 q667 q668 q122 q669 ⟨rfl, hcJ12_isLatin1⟩ rfl hA (cs_isLatin1 G h a v n w z f hA hV hn) rfl (Nat.le_of_ble_eq_true rfl) ⟨Nat.le_of_ble_eq_true rfl, Nat.le_of_ble_eq_true rfl⟩ ⟨Nat.zero_le _, Nat.zero_le _⟩ (fun _ _ _ z => z.elim) rfl (fun r_1 h_1 q_1 => ?_)
  obtain ⟨rfl, rfl⟩ := q_1
  refine AW.sts (st' := [.int 1]) rfl ?_
  refine aw_if_eq (n := 7) (tgt := 16) dJ12_charAt_4 (by decide) rfl (fun c_4 => ?_) (fun c_4 => ?_)
  · skip
    exact absurd c_4 (by decide +kernel)
  · skip
    refine aw_aload_n (n := 8) dJ12_charAt_7 rfl 0 rfl rfl ?_
    refine aw_getf (n := 11) (v := .ref v) (C0 := RJ12) (T := TJ12) dJ12_charAt_8 rfl 0 q645 (Or.inl rfl) hA rfl rfl ?_
    refine aw_iload_n (n := 12) dJ12_charAt_11 rfl 1 rfl rfl ?_
    refine aw_callS (n := 15) (As := [.ref v, .int (nI j)]) (rest := []) (K2 := kJ17_charAt) dJ12_charAt_12 q670 q671 q128 q672 hcJ17_charAt (cs_l1 G h v n f hV hn j k hj hk hf) rfl (Nat.le_of_ble_eq_true rfl) ⟨Nat.le_of_ble_eq_true rfl, Nat.le_of_ble_eq_true rfl⟩ ⟨Nat.zero_le _, Nat.zero_le _⟩ (fun _ _ _ z => z.elim) rfl (fun r_12 h_12 q_12 => ?_)
    obtain ⟨rfl, rfl⟩ := q_12
    refine AW.sts (st' := [.int (nI k)]) rfl ?_
    exact aw_zret dJ12_charAt_15 rfl (chr_nar hk) ⟨rfl, rfl⟩ ⟨Nat.zero_le _, Nat.zero_le _⟩

end
