/-! String.charAt. -/
section
set_option maxRecDepth 100000
abbrev kJ18_checkIndex : aK := (yJ18_checkIndex, cJ18_checkIndex, 3, (Option.some Jvm.ClassFile.FieldType.int), [])
theorem hcJ18_checkIndex : kJ18_checkIndex.1.cls ≠ "java/lang/invoke/MethodHandle" ∧ kJ18_checkIndex.1.cls ≠ "java/lang/invoke/VarHandle" ∧ (parseMethodDescriptor kJ18_checkIndex.1.desc).map (fun d => d.parameters.length) = some 3 := ⟨by decide, by decide, by decide +kernel⟩
theorem cs_ciN (G : aG) (h : hH) (j n : Nat) (hj : j < n) (hn : n < 2 ^ 31) : Con G kJ18_checkIndex [.int (nI j), .int (nI n), .null] h ((1, 0, 0, 0), (fun r h1 => r = some (.int (nI j)) ∧ h = h1), nX) := by
  refine Con.of (plainFor_of_name rfl) rfl (Nat.le_of_ble_eq_true rfl) ?_
  refine AW.eq (lv2 := [(0, .int (nI j)), (1, .int (nI n)), (2, .null)]) (s2 := []) rfl rfl rfl rfl rfl ?_
  refine aw_iload_n (n := 1) dJ18_checkIndex_0 rfl 0 rfl rfl ?_
  refine aw_if_lt (n := 4) (tgt := 9) dJ18_checkIndex_1 (by decide) rfl (fun c_1 => ?_) (fun c_1 => ?_)
  · skip
    have n_1 : j < 0 := (nI_ltI (a := j) (b := 0) (by omega) (by omega)).mp (by rw [← ((by rfl) : (0 : Int32) = nI 0)]; exact c_1)
    exact absurd c_1 (nI_pos (by omega))
  · skip
    have n_1 : ¬ (j < 0) := fun z => c_1 (by have y := (nI_ltI (a := j) (b := 0) (by omega) (by omega)).mpr z; rw [← ((by rfl) : (0 : Int32) = nI 0)] at y; exact y)
    refine aw_iload_n (n := 5) dJ18_checkIndex_4 rfl 0 rfl rfl ?_
    refine aw_iload_n (n := 6) dJ18_checkIndex_5 rfl 1 rfl rfl ?_
    refine aw_icmp_lt (n := 9) (tgt := 16) dJ18_checkIndex_6 (by decide) rfl (fun c_6 => ?_) (fun c_6 => ?_)
    · skip
      refine aw_iload_n (n := 17) dJ18_checkIndex_16 rfl 0 rfl rfl ?_
      exact aw_iret dJ18_checkIndex_17 rfl ⟨rfl, rfl⟩ ⟨Nat.zero_le _, Nat.zero_le _⟩
    · skip
      exact absurd ((nI_ltI (by omega) (by omega)).mpr hj) c_6

theorem cs_ciR (G : aG) (h : hH) (j n : Nat) (hj : j < n) (hn : n < 2 ^ 31) (t : Nat) : Con G kJ18_checkIndex [.int (nI j), .int (nI n), .ref t] h ((1, 0, 0, 0), (fun r h1 => r = some (.int (nI j)) ∧ h = h1), nX) := by
  refine Con.of (plainFor_of_name rfl) rfl (Nat.le_of_ble_eq_true rfl) ?_
  refine AW.eq (lv2 := [(0, .int (nI j)), (1, .int (nI n)), (2, .ref t)]) (s2 := []) rfl rfl rfl rfl rfl ?_
  refine aw_iload_n (n := 1) dJ18_checkIndex_0 rfl 0 rfl rfl ?_
  refine aw_if_lt (n := 4) (tgt := 9) dJ18_checkIndex_1 (by decide) rfl (fun c_1 => ?_) (fun c_1 => ?_)
  · skip
    have n_1 : j < 0 := (nI_ltI (a := j) (b := 0) (by omega) (by omega)).mp (by rw [← ((by rfl) : (0 : Int32) = nI 0)]; exact c_1)
    exact absurd c_1 (nI_pos (by omega))
  · skip
    have n_1 : ¬ (j < 0) := fun z => c_1 (by have y := (nI_ltI (a := j) (b := 0) (by omega) (by omega)).mpr z; rw [← ((by rfl) : (0 : Int32) = nI 0)] at y; exact y)
    refine aw_iload_n (n := 5) dJ18_checkIndex_4 rfl 0 rfl rfl ?_
    refine aw_iload_n (n := 6) dJ18_checkIndex_5 rfl 1 rfl rfl ?_
    refine aw_icmp_lt (n := 9) (tgt := 16) dJ18_checkIndex_6 (by decide) rfl (fun c_6 => ?_) (fun c_6 => ?_)
    · skip
      refine aw_iload_n (n := 17) dJ18_checkIndex_16 rfl 0 rfl rfl ?_
      exact aw_iret dJ18_checkIndex_17 rfl ⟨rfl, rfl⟩ ⟨Nat.zero_le _, Nat.zero_le _⟩
    · skip
      exact absurd ((nI_ltI (by omega) (by omega)).mpr hj) c_6

abbrev kJ12_checkIndex : aK := (yJ12_checkIndex, cJ12_checkIndex, 2, (Option.none : Option Jvm.ClassFile.FieldType), [])
theorem hcJ12_checkIndex : kJ12_checkIndex.1.cls ≠ "java/lang/invoke/MethodHandle" ∧ kJ12_checkIndex.1.cls ≠ "java/lang/invoke/VarHandle" ∧ (parseMethodDescriptor kJ12_checkIndex.1.desc).map (fun d => d.parameters.length) = some 2 := ⟨by decide, by decide, by decide +kernel⟩
theorem cs_sci (G : aG) (h : hH) (j n : Nat) (hj : j < n) (hn : n < 2 ^ 31) : Con G kJ12_checkIndex [.int (nI j), .int (nI n)] h ((2, 22, 0, 0), (fun r h1 => r = none ∧ h = h1), nX) := by
  refine Con.of (plainFor_of_name rfl) rfl (Nat.le_of_ble_eq_true rfl) ?_
  refine AW.eq (lv2 := [(0, .int (nI j)), (1, .int (nI n))]) (s2 := []) rfl rfl rfl rfl rfl ?_
  refine aw_know (fun gd _ => ?_)
  refine aw_iload_n (n := 1) dJ12_checkIndex_0 rfl 0 rfl rfl ?_
  refine aw_iload_n (n := 2) dJ12_checkIndex_1 rfl 1 rfl rfl ?_
  rcases gd.2.2.2.2.2.2.2.1.2.2.1.2.2.2 with e35 | ⟨t35, e35⟩
  · skip
    refine aw_gets (n := 5) (v := .null) dJ12_checkIndex_2 35 rfl q426 rfl e35 rfl ?_
    refine aw_callS (n := 8) (As := [.int (nI j), .int (nI n), .null]) (rest := []) (K2 := kJ18_checkIndex) dJ12_checkIndex_5 q449 q450 q129 q451 hcJ18_checkIndex (cs_ciN G h j n hj hn) rfl (Nat.le_of_ble_eq_true rfl) ⟨Nat.le_of_ble_eq_true rfl, Nat.le_of_ble_eq_true rfl⟩ ⟨Nat.zero_le _, Nat.zero_le _⟩ (fun _ _ _ z => z.elim) rfl (fun r_5 h_5 q_5 => ?_)
    obtain ⟨rfl, rfl⟩ := q_5
    refine AW.sts (st' := [.int (nI j)]) rfl ?_
    refine aw_pop (n := 9) dJ12_checkIndex_8 rfl rfl ?_
    exact aw_vret dJ12_checkIndex_9 rfl ⟨rfl, rfl⟩ ⟨Nat.zero_le _, Nat.zero_le _⟩
  · skip
    refine aw_gets (n := 5) (v := .ref t35) dJ12_checkIndex_2 35 rfl q426 rfl e35 rfl ?_
    refine aw_callS (n := 8) (As := [.int (nI j), .int (nI n), .ref t35]) (rest := []) (K2 := kJ18_checkIndex) dJ12_checkIndex_5 q449 q450 q129 q451 hcJ18_checkIndex (cs_ciR G h j n hj hn t35) rfl (Nat.le_of_ble_eq_true rfl) ⟨Nat.le_of_ble_eq_true rfl, Nat.le_of_ble_eq_true rfl⟩ ⟨Nat.zero_le _, Nat.zero_le _⟩ (fun _ _ _ z => z.elim) rfl (fun r_5 h_5 q_5 => ?_)
    obtain ⟨rfl, rfl⟩ := q_5
    refine AW.sts (st' := [.int (nI j)]) rfl ?_
    refine aw_pop (n := 9) dJ12_checkIndex_8 rfl rfl ?_
    exact aw_vret dJ12_checkIndex_9 rfl ⟨rfl, rfl⟩ ⟨Nat.zero_le _, Nat.zero_le _⟩

end
