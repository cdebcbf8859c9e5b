/-! HashMap: constructor. -/
section
set_option maxRecDepth 100000
abbrev kJ3_init : aK := (yJ3_init, cJ3_init, 1, (Option.none : Option Jvm.ClassFile.FieldType), [])
theorem hcJ3_init : kJ3_init.1.cls ≠ "java/lang/invoke/MethodHandle" ∧ kJ3_init.1.cls ≠ "java/lang/invoke/VarHandle" ∧ (parseMethodDescriptor kJ3_init.1.desc).map (fun d => d.parameters.length) = some 0 := ⟨by decide, by decide, by decide +kernel⟩
theorem hm_amI (G : aG) (h : hH) (m : Nat) : Con G kJ3_init [.ref m] h ((2, 24, 0, 0), (fun r h1 => r = none ∧ h = h1), nX) := by
  refine Con.of (plainFor_of_name rfl) rfl (Nat.le_of_ble_eq_true rfl) ?_
  refine AW.eq (lv2 := [(0, .ref m)]) (s2 := []) rfl rfl rfl rfl rfl ?_
  refine aw_aload_n (n := 1) dJ3_init_0 rfl 0 rfl rfl ?_
  refine aw_objInit (n := 4) dJ3_init_1 q221 ⟨Nat.le_of_ble_eq_true rfl, Nat.le_of_ble_eq_true rfl⟩ rfl ?_
  exact aw_vret dJ3_init_4 rfl ⟨rfl, rfl⟩ ⟨Nat.zero_le _, Nat.zero_le _⟩

abbrev kJ4_init : aK := (yJ4_init, cJ4_init, 1, (Option.none : Option Jvm.ClassFile.FieldType), [])
theorem hcJ4_init : kJ4_init.1.cls ≠ "java/lang/invoke/MethodHandle" ∧ kJ4_init.1.cls ≠ "java/lang/invoke/VarHandle" ∧ (parseMethodDescriptor kJ4_init.1.desc).map (fun d => d.parameters.length) = some 0 := ⟨by decide, by decide, by decide +kernel⟩
theorem hm_init (G : aG) (h : hH) (m : Nat) (hbm : gB G ≤ m) (hM : h.2 m = some (hob 25 [.null, .null, .null, .null, .int 0, .int 0, .int 0, .float 0])) : Con G kJ4_init [.ref m] h ((3, 44, 0, 0), (fun r h1 => r = none ∧ h1.2 m = some (hobM .null 0 0 0 (.float 1061158912)) ∧ Fr (fun q => q = m) h h1 ∧ h1.1 = h.1), nX) := by
  refine Con.of (plainFor_of_name rfl) rfl (Nat.le_of_ble_eq_true rfl) ?_
  refine AW.eq (lv2 := [(0, .ref m)]) (s2 := []) rfl rfl rfl rfl rfl ?_
  refine aw_know (fun gd hi => ?_)
  have lt_m : m < h.1 := hi.2.1 _ _ hM
  refine aw_aload_n (n := 1) dJ4_init_0 rfl 0 rfl rfl ?_
  refine aw_callI (n := 4) (As := []) (rest := []) (K2 := kJ3_init) dJ4_init_1 q218 q219 q111 q220 rfl rfl hcJ3_init (hm_amI G h m) rfl (Nat.le_of_ble_eq_true rfl) ⟨Nat.le_of_ble_eq_true rfl, Nat.le_of_ble_eq_true rfl⟩ ⟨by first | omega | (dsimp only; omega) | decide, by first | omega | (dsimp only; omega) | decide⟩ (fun _ _ _ z => z.elim) rfl (fun r_1 h_1 q_1 => ?_)
  obtain ⟨rfl, rfl⟩ := q_1
  refine AW.sts (st' := []) rfl ?_
  refine aw_aload_n (n := 5) dJ4_init_4 rfl 0 rfl rfl ?_
  refine aw_ldcF (n := 7) (v := 1061158912) dJ4_init_5 q222 rfl ?_
  refine aw_putK (n := 10) (fs' := [.null, .null, .null, .null, .int 0, .int 0, .int 0, .float 1061158912]) (C0 := RJ4) (T := TJ4) (N := 8) (ci := 25) dJ4_init_7 rfl in_J4 tyJ4 tyJ4_ok nmJ4 q214 7 (by decide) q227 (Or.inl rfl) (by first | exact Or.inl rfl | exact Or.inr ⟨rfl, rfl, rfl⟩) rfl hM hbm rfl rfl (Nat.le_of_ble_eq_true rfl) rfl rfl (fun y_1 w_1 => ?_)
  have zy_1 : y_1.1 = h.1 := w_1.2.2
  exact aw_vret dJ4_init_10 rfl ⟨rfl, w_1.1, (Fr.w Fr.rf w_1 (Or.inl rfl)), by omega⟩ ⟨Nat.zero_le _, Nat.zero_le _⟩

end
