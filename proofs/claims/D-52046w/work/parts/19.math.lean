/-! Math.max, Math.min. -/
section
set_option maxRecDepth 100000
abbrev kJ15_max_2 : aK := (yJ15_max_2, cJ15_max_2, 4, (Option.some Jvm.ClassFile.FieldType.long), [])
theorem hcJ15_max_2 : kJ15_max_2.1.cls ≠ "java/lang/invoke/MethodHandle" ∧ kJ15_max_2.1.cls ≠ "java/lang/invoke/VarHandle" ∧ (parseMethodDescriptor kJ15_max_2.1.desc).map (fun d => d.parameters.length) = some 2 := ⟨by decide, by decide, by decide +kernel⟩
theorem cj_maxL (G : aG) (h : hH) (x y : Int64) : Con G kJ15_max_2 [.long x, .long y] h ((1, 0, 0, 0), (fun r h1 => r = some (.long (if x < y then y else x)) ∧ h = h1), nX) := by
  refine Con.of (by decide +kernel) rfl (Nat.le_of_ble_eq_true rfl) ?_
  refine AW.eq (lv2 := [(0, .long x), (2, .long y)]) (s2 := []) rfl rfl rfl rfl rfl ?_
  refine aw_lload_n (n := 1) dJ15_max_2_0 rfl 0 rfl rfl ?_
  refine aw_lload_n (n := 2) dJ15_max_2_1 rfl 1 rfl rfl ?_
  refine aw_lcmp (n := 3) dJ15_max_2_2 rfl ?_
  refine aw_if_lt (n := 6) (tgt := 10) dJ15_max_2_3 (by decide) rfl (fun c_3 => ?_) (fun c_3 => ?_)
  · skip
    have o_3 : x < y := (lg_lt0 _ _).mp c_3
    refine aw_lload_n (n := 11) dJ15_max_2_10 rfl 1 rfl rfl ?_
    exact aw_lret dJ15_max_2_11 rfl ⟨congrArg some (congrArg Value.long (by simp [o_3])), rfl⟩ ⟨Nat.zero_le _, Nat.zero_le _⟩
  · skip
    have o_3 : ¬ (x < y) := fun z => c_3 ((lg_lt0 _ _).mpr z)
    refine aw_lload_n (n := 7) dJ15_max_2_6 rfl 0 rfl rfl ?_
    refine aw_goto (tgt := 11) dJ15_max_2_7 (by decide) ?_
    exact aw_lret dJ15_max_2_11 rfl ⟨congrArg some (congrArg Value.long (by simp [o_3])), rfl⟩ ⟨Nat.zero_le _, Nat.zero_le _⟩

abbrev kJ15_min_2 : aK := (yJ15_min_2, cJ15_min_2, 4, (Option.some Jvm.ClassFile.FieldType.long), [])
theorem hcJ15_min_2 : kJ15_min_2.1.cls ≠ "java/lang/invoke/MethodHandle" ∧ kJ15_min_2.1.cls ≠ "java/lang/invoke/VarHandle" ∧ (parseMethodDescriptor kJ15_min_2.1.desc).map (fun d => d.parameters.length) = some 2 := ⟨by decide, by decide, by decide +kernel⟩
theorem cj_minL (G : aG) (h : hH) (x y : Int64) : Con G kJ15_min_2 [.long x, .long y] h ((1, 0, 0, 0), (fun r h1 => r = some (.long (if y < x then y else x)) ∧ h = h1), nX) := by
  refine Con.of (by decide +kernel) rfl (Nat.le_of_ble_eq_true rfl) ?_
  refine AW.eq (lv2 := [(0, .long x), (2, .long y)]) (s2 := []) rfl rfl rfl rfl rfl ?_
  refine aw_lload_n (n := 1) dJ15_min_2_0 rfl 0 rfl rfl ?_
  refine aw_lload_n (n := 2) dJ15_min_2_1 rfl 1 rfl rfl ?_
  refine aw_lcmp (n := 3) dJ15_min_2_2 rfl ?_
  refine aw_if_gt (n := 6) (tgt := 10) dJ15_min_2_3 (by decide) rfl (fun c_3 => ?_) (fun c_3 => ?_)
  · skip
    have o_3 : y < x := (lg_gt0 _ _).mp c_3
    refine aw_lload_n (n := 11) dJ15_min_2_10 rfl 1 rfl rfl ?_
    exact aw_lret dJ15_min_2_11 rfl ⟨congrArg some (congrArg Value.long (by simp [o_3])), rfl⟩ ⟨Nat.zero_le _, Nat.zero_le _⟩
  · skip
    have o_3 : ¬ (y < x) := fun z => c_3 ((lg_gt0 _ _).mpr z)
    refine aw_lload_n (n := 7) dJ15_min_2_6 rfl 0 rfl rfl ?_
    refine aw_goto (tgt := 11) dJ15_min_2_7 (by decide) ?_
    exact aw_lret dJ15_min_2_11 rfl ⟨congrArg some (congrArg Value.long (by simp [o_3])), rfl⟩ ⟨Nat.zero_le _, Nat.zero_le _⟩

abbrev kJ15_max : aK := (yJ15_max, cJ15_max, 2, (Option.some Jvm.ClassFile.FieldType.int), [])
theorem hcJ15_max : kJ15_max.1.cls ≠ "java/lang/invoke/MethodHandle" ∧ kJ15_max.1.cls ≠ "java/lang/invoke/VarHandle" ∧ (parseMethodDescriptor kJ15_max.1.desc).map (fun d => d.parameters.length) = some 2 := ⟨by decide, by decide, by decide +kernel⟩
theorem cj_maxI (G : aG) (h : hH) (x y : Int32) : Con G kJ15_max [.int x, .int y] h ((1, 0, 0, 0), (fun r h1 => r = some (.int (if x < y then y else x)) ∧ h = h1), nX) := by
  refine Con.of (by decide +kernel) rfl (Nat.le_of_ble_eq_true rfl) ?_
  refine AW.eq (lv2 := [(0, .int x), (1, .int y)]) (s2 := []) rfl rfl rfl rfl rfl ?_
  refine aw_iload_n (n := 1) dJ15_max_0 rfl 0 rfl rfl ?_
  refine aw_iload_n (n := 2) dJ15_max_1 rfl 1 rfl rfl ?_
  refine aw_icmp_lt (n := 5) (tgt := 9) dJ15_max_2 (by decide) rfl (fun c_2 => ?_) (fun c_2 => ?_)
  · skip
    refine aw_iload_n (n := 10) dJ15_max_9 rfl 1 rfl rfl ?_
    exact aw_iret dJ15_max_10 rfl ⟨congrArg some (congrArg Value.int (by simp [c_2])), rfl⟩ ⟨Nat.zero_le _, Nat.zero_le _⟩
  · skip
    refine aw_iload_n (n := 6) dJ15_max_5 rfl 0 rfl rfl ?_
    refine aw_goto (tgt := 10) dJ15_max_6 (by decide) ?_
    exact aw_iret dJ15_max_10 rfl ⟨congrArg some (congrArg Value.int (by simp [c_2])), rfl⟩ ⟨Nat.zero_le _, Nat.zero_le _⟩

abbrev kJ15_min : aK := (yJ15_min, cJ15_min, 2, (Option.some Jvm.ClassFile.FieldType.int), [])
theorem hcJ15_min : kJ15_min.1.cls ≠ "java/lang/invoke/MethodHandle" ∧ kJ15_min.1.cls ≠ "java/lang/invoke/VarHandle" ∧ (parseMethodDescriptor kJ15_min.1.desc).map (fun d => d.parameters.length) = some 2 := ⟨by decide, by decide, by decide +kernel⟩
theorem cj_minI (G : aG) (h : hH) (x y : Int32) : Con G kJ15_min [.int x, .int y] h ((1, 0, 0, 0), (fun r h1 => r = some (.int (if y < x then y else x)) ∧ h = h1), nX) := by
  refine Con.of (by decide +kernel) rfl (Nat.le_of_ble_eq_true rfl) ?_
  refine AW.eq (lv2 := [(0, .int x), (1, .int y)]) (s2 := []) rfl rfl rfl rfl rfl ?_
  refine aw_iload_n (n := 1) dJ15_min_0 rfl 0 rfl rfl ?_
  refine aw_iload_n (n := 2) dJ15_min_1 rfl 1 rfl rfl ?_
  refine aw_icmp_gt (n := 5) (tgt := 9) dJ15_min_2 (by decide) rfl (fun c_2 => ?_) (fun c_2 => ?_)
  · skip
    refine aw_iload_n (n := 10) dJ15_min_9 rfl 1 rfl rfl ?_
    exact aw_iret dJ15_min_10 rfl ⟨congrArg some (congrArg Value.int (by simp [c_2])), rfl⟩ ⟨Nat.zero_le _, Nat.zero_le _⟩
  · skip
    refine aw_iload_n (n := 6) dJ15_min_5 rfl 0 rfl rfl ?_
    refine aw_goto (tgt := 10) dJ15_min_6 (by decide) ?_
    exact aw_iret dJ15_min_10 rfl ⟨congrArg some (congrArg Value.int (by simp [c_2])), rfl⟩ ⟨Nat.zero_le _, Nat.zero_le _⟩

end
