/-! ArrayList: its methods. -/
section
set_option maxRecDepth 100000
abbrev kJ2_size : aK := (yJ2_size, cJ2_size, 1, (Option.some Jvm.ClassFile.FieldType.int), [])
theorem hcJ2_size : kJ2_size.1.cls ≠ "java/lang/invoke/MethodHandle" ∧ kJ2_size.1.cls ≠ "java/lang/invoke/VarHandle" ∧ (parseMethodDescriptor kJ2_size.1.desc).map (fun d => d.parameters.length) = some 0 := ⟨by decide, by decide, by decide +kernel⟩
theorem ca_size (G : aG) (h : hH) (o a : Nat) (xs : List Nat) (hL : isAL G h o a xs) : Con G kJ2_size [.ref o] h ((1, 0, 0, 0), (fun r h1 => r = some (.int (nI xs.length)) ∧ h = h1), nX) := by
  obtain ⟨mc, cap, f, hO, hA, hlen, hcap, hf, hz⟩ := hL
  refine Con.of (plainFor_of_name rfl) rfl (Nat.le_of_ble_eq_true rfl) ?_
  refine AW.eq (lv2 := [(0, .ref o)]) (s2 := []) rfl rfl rfl rfl rfl ?_
  refine aw_know (fun gd hi => ?_)
  have lt_o : o < h.1 := hi.2.1 _ _ hO
  have lt_a : a < h.1 := hi.2.1 _ _ hA
  refine aw_aload_n (n := 1) dJ2_size_0 rfl 0 rfl rfl ?_
  refine aw_getf (n := 4) (v := .int (nI xs.length)) (C0 := RJ2) (T := TJ2) dJ2_size_1 rfl 2 q200 (Or.inl rfl) hO rfl rfl ?_
  exact aw_iret dJ2_size_4 rfl ⟨rfl, rfl⟩ ⟨Nat.zero_le _, Nat.zero_le _⟩

abbrev kJ2_isEmpty : aK := (yJ2_isEmpty, cJ2_isEmpty, 1, (Option.some Jvm.ClassFile.FieldType.boolean), [])
theorem hcJ2_isEmpty : kJ2_isEmpty.1.cls ≠ "java/lang/invoke/MethodHandle" ∧ kJ2_isEmpty.1.cls ≠ "java/lang/invoke/VarHandle" ∧ (parseMethodDescriptor kJ2_isEmpty.1.desc).map (fun d => d.parameters.length) = some 0 := ⟨by decide, by decide, by decide +kernel⟩
theorem ca_isEmpty (G : aG) (h : hH) (o a : Nat) (xs : List Nat) (hL : isAL G h o a xs) : Con G kJ2_isEmpty [.ref o] h ((1, 0, 0, 0), (fun r h1 => r = some (.int (bI (decide (xs.length = 0)))) ∧ h = h1), nX) := by
  obtain ⟨mc, cap, f, hO, hA, hlen, hcap, hf, hz⟩ := hL
  refine Con.of (plainFor_of_name rfl) rfl (Nat.le_of_ble_eq_true rfl) ?_
  refine AW.eq (lv2 := [(0, .ref o)]) (s2 := []) rfl rfl rfl rfl rfl ?_
  refine aw_know (fun gd hi => ?_)
  have lt_o : o < h.1 := hi.2.1 _ _ hO
  have lt_a : a < h.1 := hi.2.1 _ _ hA
  refine aw_aload_n (n := 1) dJ2_isEmpty_0 rfl 0 rfl rfl ?_
  refine aw_getf (n := 4) (v := .int (nI xs.length)) (C0 := RJ2) (T := TJ2) dJ2_isEmpty_1 rfl 2 q200 (Or.inl rfl) hO rfl rfl ?_
  refine aw_if_ne (n := 7) (tgt := 11) dJ2_isEmpty_4 (by decide) rfl (fun c_4 => ?_) (fun c_4 => ?_)
  · skip
    have n_4 : ¬ (xs.length = 0) := fun z => c_4 (by have y := (nI_eq (a := xs.length) (b := 0) (by omega) (by omega)).mpr z; rw [← ((by rfl) : (0 : Int32) = nI 0)] at y; exact y)
    refine aw_iconst (n := 12) (v := 0) dJ2_isEmpty_11 (by decide) rfl ?_
    exact aw_zret dJ2_isEmpty_12 rfl (by decide) ⟨congrArg some (congrArg Value.int (by simp [bI, n_4])), rfl⟩ ⟨Nat.zero_le _, Nat.zero_le _⟩
  · skip
    have n_4 : xs.length = 0 := (nI_eq (a := xs.length) (b := 0) (by omega) (by omega)).mp (by rw [← ((by rfl) : (0 : Int32) = nI 0)]; exact c_4)
    refine aw_iconst (n := 8) (v := 1) dJ2_isEmpty_7 (by decide) rfl ?_
    refine aw_goto (tgt := 12) dJ2_isEmpty_8 (by decide) ?_
    exact aw_zret dJ2_isEmpty_12 rfl (by decide) ⟨congrArg some (congrArg Value.int (by simp [bI, n_4])), rfl⟩ ⟨Nat.zero_le _, Nat.zero_le _⟩

abbrev kJ2_elementData : aK := (yJ2_elementData, cJ2_elementData, 2, (Option.some (Jvm.ClassFile.FieldType.object "java/lang/Object")), [])
theorem hcJ2_elementData : kJ2_elementData.1.cls ≠ "java/lang/invoke/MethodHandle" ∧ kJ2_elementData.1.cls ≠ "java/lang/invoke/VarHandle" ∧ (parseMethodDescriptor kJ2_elementData.1.desc).map (fun d => d.parameters.length) = some 1 := ⟨by decide, by decide, by decide +kernel⟩
theorem ca_elData (G : aG) (h : hH) (o a : Nat) (xs : List Nat) (hL : isAL G h o a xs)(j : Nat) (hj : j < xs.length) : Con G kJ2_elementData [.ref o, .int (nI j)] h ((1, 0, 0, 0), (fun r h1 => r = some (.ref (xs.getD j 0)) ∧ h = h1), nX) := by
  obtain ⟨mc, cap, f, hO, hA, hlen, hcap, hf, hz⟩ := hL
  refine Con.of (plainFor_of_name rfl) rfl (Nat.le_of_ble_eq_true rfl) ?_
  refine AW.eq (lv2 := [(0, .ref o), (1, .int (nI j))]) (s2 := []) rfl rfl rfl rfl rfl ?_
  refine aw_know (fun gd hi => ?_)
  have lt_o : o < h.1 := hi.2.1 _ _ hO
  have lt_a : a < h.1 := hi.2.1 _ _ hA
  refine aw_aload_n (n := 1) dJ2_elementData_0 rfl 0 rfl rfl ?_
  refine aw_getf (n := 4) (v := .ref a) (C0 := RJ2) (T := TJ2) dJ2_elementData_1 rfl 1 q197 (Or.inl rfl) hO rfl rfl ?_
  refine aw_iload_n (n := 5) dJ2_elementData_4 rfl 1 rfl rfl ?_
  refine aw_aald (n := 6) (v := .ref (xs.getD j 0)) dJ2_elementData_5 rfl rfl j rfl hA (by omega) (by omega) (hf _ (by omega)) rfl ?_
  exact aw_aret dJ2_elementData_6 rfl (Or.inl ⟨_, rfl⟩) (Or.inr ⟨_, rfl⟩) ⟨rfl, rfl⟩ ⟨Nat.zero_le _, Nat.zero_le _⟩

abbrev kJ22_checkIndex : aK := (yJ22_checkIndex, cJ22_checkIndex, 2, (Option.some Jvm.ClassFile.FieldType.int), [])
theorem hcJ22_checkIndex : kJ22_checkIndex.1.cls ≠ "java/lang/invoke/MethodHandle" ∧ kJ22_checkIndex.1.cls ≠ "java/lang/invoke/VarHandle" ∧ (parseMethodDescriptor kJ22_checkIndex.1.desc).map (fun d => d.parameters.length) = some 2 := ⟨by decide, by decide, by decide +kernel⟩
theorem ca_ci (G : aG) (h : hH) (j n : Nat) (hj : j < n) (hn : n < 2 ^ 31) : Con G kJ22_checkIndex [.int (nI j), .int (nI n)] h ((2, 22, 0, 0), (fun r h1 => r = some (.int (nI j)) ∧ h = h1), nX) := by
  refine Con.of (plainFor_of_name rfl) rfl (Nat.le_of_ble_eq_true rfl) ?_
  refine AW.eq (lv2 := [(0, .int (nI j)), (1, .int (nI n))]) (s2 := []) rfl rfl rfl rfl rfl ?_
  refine aw_iload_n (n := 1) dJ22_checkIndex_0 rfl 0 rfl rfl ?_
  refine aw_iload_n (n := 2) dJ22_checkIndex_1 rfl 1 rfl rfl ?_
  refine aw_null (n := 3) dJ22_checkIndex_2 rfl ?_
  refine aw_callS (n := 6) (As := [.int (nI j), .int (nI n), .null]) (rest := []) (K2 := kJ18_checkIndex) dJ22_checkIndex_3 q1028 q450 q129 q451 hcJ18_checkIndex (cs_ciN G h j n hj hn) rfl (Nat.le_of_ble_eq_true rfl) ⟨Nat.le_of_ble_eq_true rfl, Nat.le_of_ble_eq_true rfl⟩ ⟨by first | omega | (dsimp only; omega) | decide, by first | omega | (dsimp only; omega) | decide⟩ (fun _ _ _ z => z.elim) rfl (fun r_3 h_3 q_3 => ?_)
  obtain ⟨rfl, rfl⟩ := q_3
  refine AW.sts (st' := [.int (nI j)]) rfl ?_
  exact aw_iret dJ22_checkIndex_6 rfl ⟨rfl, rfl⟩ ⟨Nat.zero_le _, Nat.zero_le _⟩

abbrev kJ2_get : aK := (yJ2_get, cJ2_get, 2, (Option.some (Jvm.ClassFile.FieldType.object "java/lang/Object")), [])
theorem hcJ2_get : kJ2_get.1.cls ≠ "java/lang/invoke/MethodHandle" ∧ kJ2_get.1.cls ≠ "java/lang/invoke/VarHandle" ∧ (parseMethodDescriptor kJ2_get.1.desc).map (fun d => d.parameters.length) = some 1 := ⟨by decide, by decide, by decide +kernel⟩
theorem ca_get (G : aG) (h : hH) (o a : Nat) (xs : List Nat) (hL : isAL G h o a xs)(j : Nat) (hj : j < xs.length) : Con G kJ2_get [.ref o, .int (nI j)] h ((3, 43, 0, 0), (fun r h1 => r = some (.ref (xs.getD j 0)) ∧ h = h1), nX) := by
  have hL0 := hL
  obtain ⟨mc, cap, f, hO, hA, hlen, hcap, hf, hz⟩ := hL
  refine Con.of (plainFor_of_name rfl) rfl (Nat.le_of_ble_eq_true rfl) ?_
  refine AW.eq (lv2 := [(0, .ref o), (1, .int (nI j))]) (s2 := []) rfl rfl rfl rfl rfl ?_
  refine aw_know (fun gd hi => ?_)
  have lt_o : o < h.1 := hi.2.1 _ _ hO
  have lt_a : a < h.1 := hi.2.1 _ _ hA
  refine aw_iload_n (n := 1) dJ2_get_0 rfl 1 rfl rfl ?_
  refine aw_aload_n (n := 2) dJ2_get_1 rfl 0 rfl rfl ?_
  refine aw_getf (n := 5) (v := .int (nI xs.length)) (C0 := RJ2) (T := TJ2) dJ2_get_2 rfl 2 q200 (Or.inl rfl) hO rfl rfl ?_
  refine aw_callS (n := 8) (As := [.int (nI j), .int (nI xs.length)]) (rest := []) (K2 := kJ22_checkIndex) dJ2_get_5 q1025 q1026 q136 q1027 hcJ22_checkIndex (ca_ci G h j xs.length hj (by omega)) rfl (Nat.le_of_ble_eq_true rfl) ⟨Nat.le_of_ble_eq_true rfl, Nat.le_of_ble_eq_true rfl⟩ ⟨by first | omega | (dsimp only; omega) | decide, by first | omega | (dsimp only; omega) | decide⟩ (fun _ _ _ z => z.elim) rfl (fun r_5 h_5 q_5 => ?_)
  obtain ⟨rfl, rfl⟩ := q_5
  refine AW.sts (st' := [.int (nI j)]) rfl ?_
  refine aw_pop (n := 9) dJ2_get_8 rfl rfl ?_
  refine aw_aload_n (n := 10) dJ2_get_9 rfl 0 rfl rfl ?_
  refine aw_iload_n (n := 11) dJ2_get_10 rfl 1 rfl rfl ?_
  refine aw_callV (n := 14) (C0 := RJ2) (As := [.int (nI j)]) (rest := []) (K2 := kJ2_elementData) dJ2_get_11 q1029 q1030 q1031 q110 q1032 ⟨rfl, hcJ2_elementData⟩ rfl hO (ca_elData G h o a xs hL0 j hj) rfl (Nat.le_of_ble_eq_true rfl) ⟨Nat.le_of_ble_eq_true rfl, Nat.le_of_ble_eq_true rfl⟩ ⟨by first | omega | (dsimp only; omega) | decide, by first | omega | (dsimp only; omega) | decide⟩ (fun _ _ _ z => z.elim) rfl (fun r_11 h_11 q_11 => ?_)
  obtain ⟨rfl, rfl⟩ := q_11
  refine AW.sts (st' := [.ref (xs.getD j 0)]) rfl ?_
  exact aw_aret dJ2_get_14 rfl (Or.inl ⟨_, rfl⟩) (Or.inr ⟨_, rfl⟩) ⟨rfl, rfl⟩ ⟨Nat.zero_le _, Nat.zero_le _⟩

abbrev kJ14_newLength : aK := (yJ14_newLength, cJ14_newLength, 4, (Option.some Jvm.ClassFile.FieldType.int), [])
theorem hcJ14_newLength : kJ14_newLength.1.cls ≠ "java/lang/invoke/MethodHandle" ∧ kJ14_newLength.1.cls ≠ "java/lang/invoke/VarHandle" ∧ (parseMethodDescriptor kJ14_newLength.1.desc).map (fun d => d.parameters.length) = some 3 := ⟨by decide, by decide, by decide +kernel⟩
theorem ca_newLen (G : aG) (h : hH) (c m p : Nat) (hc : c < 2 ^ 20) (hm : 0 < m) (hm2 : m < 2 ^ 20) (hp : p < 2 ^ 20) : Con G kJ14_newLength [.int (nI c), .int (nI m), .int (nI p)] h ((2, 21, 0, 0), (fun r h1 => r = some (.int (nI (c + max m p))) ∧ h = h1), nX) := by
  have hmx := Nat.le_max_left m p; have hmx2 := Nat.max_le.mpr ⟨Nat.le_of_lt hm2, Nat.le_of_lt hp⟩
  refine Con.of (plainFor_of_name rfl) rfl (Nat.le_of_ble_eq_true rfl) ?_
  refine AW.eq (lv2 := [(0, .int (nI c)), (1, .int (nI m)), (2, .int (nI p))]) (s2 := []) rfl rfl rfl rfl rfl ?_
  refine aw_iload_n (n := 1) dJ14_newLength_0 rfl 0 rfl rfl ?_
  refine aw_iload_n (n := 2) dJ14_newLength_1 rfl 1 rfl rfl ?_
  refine aw_iload_n (n := 3) dJ14_newLength_2 rfl 2 rfl rfl ?_
  refine aw_callS (n := 6) (As := [.int (nI m), .int (nI p)]) (rest := [.int (nI c)]) (K2 := kJ15_max) dJ14_newLength_3 q375 q376 q125 q377 hcJ15_max (cj_maxI G h (nI m) (nI p)) rfl (Nat.le_of_ble_eq_true rfl) ⟨Nat.le_of_ble_eq_true rfl, Nat.le_of_ble_eq_true rfl⟩ ⟨by first | omega | (dsimp only; omega) | decide, by first | omega | (dsimp only; omega) | decide⟩ (fun _ _ _ z => z.elim) rfl (fun r_3 h_3 q_3 => ?_)
  obtain ⟨rfl, rfl⟩ := q_3
  refine AW.sts (st' := [.int (nI (max m p)), .int (nI c)]) (by rw [nI_max (by first | decide | omega) (by first | decide | omega)]; rfl) ?_
  refine aw_iadd (n := 7) dJ14_newLength_6 rfl ?_
  refine aw_istore_n (n := 8) (lv' := [(3, .int ((nI c) + (nI (max m p)))), (0, .int (nI c)), (1, .int (nI m)), (2, .int (nI p))]) dJ14_newLength_7 rfl (by decide) rfl rfl ?_
  refine aw_iconst (n := 9) (v := 0) dJ14_newLength_8 (by decide) rfl ?_
  refine aw_iload_n (n := 10) dJ14_newLength_9 rfl 0 rfl rfl ?_
  refine aw_icmp_ge (n := 13) (tgt := 21) dJ14_newLength_10 (by decide) rfl (fun c_10 => ?_) (fun c_10 => ?_)
  · skip
    have n_10 : (c + (max m p)) ≤ 0 := (nI_leI (a := (c + (max m p))) (b := 0) (by omega) (by omega)).mp (by rw [← ((by rw [show nI c = nI c from rfl, show nI (max m p) = nI (max m p) from rfl]; exact nI_add _ _) : ((nI c) + (nI (max m p))) = nI (c + (max m p))), ← ((by rfl) : (0 : Int32) = nI 0)]; exact c_10)
    exfalso; omega
  · skip
    have n_10 : ¬ ((c + (max m p)) ≤ 0) := fun z => c_10 (by have y := (nI_leI (a := (c + (max m p))) (b := 0) (by omega) (by omega)).mpr z; rw [← ((by rw [show nI c = nI c from rfl, show nI (max m p) = nI (max m p) from rfl]; exact nI_add _ _) : ((nI c) + (nI (max m p))) = nI (c + (max m p))), ← ((by rfl) : (0 : Int32) = nI 0)] at y; exact y)
    refine aw_iload_n (n := 14) dJ14_newLength_13 rfl 0 rfl rfl ?_
    refine aw_ldcI (n := 16) (v := 2147483639) dJ14_newLength_14 q378 rfl ?_
    refine aw_icmp_gt (n := 19) (tgt := 21) dJ14_newLength_16 (by decide) rfl (fun c_16 => ?_) (fun c_16 => ?_)
    · skip
      have n_16 : 2147483639 < (c + (max m p)) := (nI_ltI (a := 2147483639) (b := (c + (max m p))) (by omega) (by omega)).mp (by rw [← ((by rfl) : (2147483639 : Int32) = nI 2147483639), ← ((by rw [show nI c = nI c from rfl, show nI (max m p) = nI (max m p) from rfl]; exact nI_add _ _) : ((nI c) + (nI (max m p))) = nI (c + (max m p)))]; exact c_16)
      exfalso; omega
    · skip
      have n_16 : ¬ (2147483639 < (c + (max m p))) := fun z => c_16 (by have y := (nI_ltI (a := 2147483639) (b := (c + (max m p))) (by omega) (by omega)).mpr z; rw [← ((by rfl) : (2147483639 : Int32) = nI 2147483639), ← ((by rw [show nI c = nI c from rfl, show nI (max m p) = nI (max m p) from rfl]; exact nI_add _ _) : ((nI c) + (nI (max m p))) = nI (c + (max m p)))] at y; exact y)
      refine aw_iload_n (n := 20) dJ14_newLength_19 rfl 0 rfl rfl ?_
      exact aw_iret dJ14_newLength_20 rfl ⟨by rw [nI_add], rfl⟩ ⟨Nat.zero_le _, Nat.zero_le _⟩

abbrev kJ16_copyOf_3 : aK := (yJ16_copyOf_3, cJ16_copyOf_3, 4, (Option.some (Jvm.ClassFile.FieldType.array (Jvm.ClassFile.FieldType.object "java/lang/Object"))), [])
theorem hcJ16_copyOf_3 : kJ16_copyOf_3.1.cls ≠ "java/lang/invoke/MethodHandle" ∧ kJ16_copyOf_3.1.cls ≠ "java/lang/invoke/VarHandle" ∧ (parseMethodDescriptor kJ16_copyOf_3.1.desc).map (fun d => d.parameters.length) = some 3 := ⟨by decide, by decide, by decide +kernel⟩
theorem ca_copy3 (G : aG) (h : hH) (a cap n : Nat) (f : Nat → Value) (hA : h.2 a = some (har 4 cap f)) (hcap : cap < 2 ^ 20) (hn : n < 2 ^ 20)(hel : ∀ j, j < cap → j < n → elOK h "java/lang/Object" (f j)) : Con G kJ16_copyOf_3 [.ref a, .int (nI n), .ref (gM G 1)] h ((2, 60, 1, n), (fun r h1 => ∃ (x : Nat) (g : Nat → Value), r = some (.ref x) ∧ gB G ≤ x ∧ x = h.1 ∧ h1.2 x = some (har 4 n g) ∧ (∀ j, j < min cap n → g j = f j) ∧ Fr nS h h1 ∧ h1.1 = h.1 + 1), nX) := by
  have hm1 := Nat.min_le_left cap n; have hm2 := Nat.min_le_right cap n
  refine Con.of (plainFor_of_name rfl) rfl (Nat.le_of_ble_eq_true rfl) ?_
  refine AW.eq (lv2 := [(0, .ref a), (1, .int (nI n)), (2, .ref (gM G 1))]) (s2 := []) rfl rfl rfl rfl rfl ?_
  refine aw_know (fun gd hi => ?_)
  have lt_a : a < h.1 := hi.2.1 _ _ hA
  refine aw_aload_n (n := 1) dJ16_copyOf_3_0 rfl 2 rfl rfl ?_
  refine aw_ldcM (n := 3) dJ16_copyOf_3_1 q972 (List.Mem.tail _ (List.Mem.head _)) rfl ?_
  refine aw_acmp_ne (n := 6) (x := (some (gM G 1))) (y := (some (gM G 1))) (tgt := 13) dJ16_copyOf_3_3 (by decide) rfl (fun z9 => absurd z9 (fun k9 => k9 rfl)) (fun _ => ?_)
  refine aw_iload_n (n := 7) dJ16_copyOf_3_6 rfl 1 rfl rfl ?_
  refine aw_anewK (n := 10) (ti := 4) (N := n) dJ16_copyOf_3_7 rfl q974 q973 rfl (by omega) (by omega) (by first | omega | (dsimp only; omega) | decide) (by first | omega | (dsimp only; omega) | decide) rfl (by first | rfl | omega) (by first | rfl | omega) (fun y_1 u_1 bu_1 w_1 => ?_)
  have eu_1 : u_1 = h.1 := w_1.2.2.1
  have zy_1 : y_1.1 = u_1 + 1 := w_1.2.2.2
  refine aw_goto (tgt := 24) dJ16_copyOf_3_10 (by decide) ?_
  refine aw_astore_n (n := 25) (lv' := [(3, .ref u_1), (0, .ref a), (1, .int (nI n)), (2, .ref (gM G 1))]) dJ16_copyOf_3_24 rfl (by decide) rfl rfl ?_
  refine aw_aload_n (n := 26) dJ16_copyOf_3_25 rfl 1 rfl rfl ?_
  refine aw_iconst (n := 27) (v := 0) dJ16_copyOf_3_26 (by decide) rfl ?_
  refine aw_aload_n (n := 28) dJ16_copyOf_3_27 rfl 0 rfl rfl ?_
  refine aw_iconst (n := 29) (v := 0) dJ16_copyOf_3_28 (by decide) rfl ?_
  refine aw_aload_n (n := 30) dJ16_copyOf_3_29 rfl 1 rfl rfl ?_
  have f_2 : y_1.2 a = some (har 4 cap f) := (w_1.k (by omega) hA)
  refine aw_alen (n := 31) (v := nI cap) dJ16_copyOf_3_30 rfl f_2 rfl rfl ?_
  refine aw_iload_n (n := 32) dJ16_copyOf_3_31 rfl 2 rfl rfl ?_
  refine aw_callS (n := 35) (As := [.int (nI cap), .int (nI n)]) (rest := [.int 0, .ref u_1, .int 0, .ref a]) (K2 := kJ15_min) dJ16_copyOf_3_32 q393 q394 q125 q395 hcJ15_min (cj_minI G y_1 (nI cap) (nI n)) rfl (Nat.le_of_ble_eq_true rfl) ⟨Nat.le_of_ble_eq_true rfl, Nat.le_of_ble_eq_true rfl⟩ ⟨by first | omega | (dsimp only; omega) | decide, by first | omega | (dsimp only; omega) | decide⟩ (fun _ _ _ z => z.elim) rfl (fun r_32 h_32 q_32 => ?_)
  obtain ⟨rfl, rfl⟩ := q_32
  refine AW.sts (st' := [.int (nI (min cap n)), .int 0, .ref u_1, .int 0, .ref a]) (by rw [nI_min (by first | decide | omega) (by first | decide | omega)]; rfl) ?_
  refine AW.sts (st' := [.int (nI (min cap n)), .int (nI 0), .ref u_1, .int 0, .ref a]) (by rw [show (0 : Int32) = nI 0 from (by rfl)]) ?_
  refine AW.sts (st' := [.int (nI (min cap n)), .int (nI 0), .ref u_1, .int (nI 0), .ref a]) (by rw [show (0 : Int32) = nI 0 from (by rfl)]) ?_
  refine aw_acopyRK (n := 38) (sp := 0) (dp := 0) (c0 := (min cap n)) (f' := cpF f (fun _ => .null) 0 0 (min cap n)) dJ16_copyOf_3_35 q396 q398 q397 q127 rfl f_2 w_1.1 bu_1 (by have := Nat.min_le_left cap n; omega) (by have := Nat.min_le_right cap n; omega) (by omega) (by omega) (fun j hj => by rw [Nat.zero_add]; rcases hel j (by have := Nat.min_le_left cap n; omega) (by have := Nat.min_le_right cap n; omega) with z | ⟨y, ad, z, z2, z3⟩; exact Or.inl z; exact Or.inr ⟨y, ad, z, z2.nw hi w_1, z3⟩) (Nat.le_of_ble_eq_true rfl) ⟨Nat.le_of_ble_eq_true rfl, Nat.le_of_ble_eq_true rfl⟩ rfl rfl (fun y_3 w_3 => ?_)
  have zy_3 : y_3.1 = y_1.1 := w_3.2.2
  refine aw_aload_n (n := 39) dJ16_copyOf_3_38 rfl 0 rfl rfl ?_
  exact aw_aret dJ16_copyOf_3_39 rfl (Or.inr ⟨_, rfl⟩) (Or.inr ⟨_, rfl⟩) ⟨u_1, _, rfl, bu_1, by omega, w_3.1, fun j hj => by simp only [cpF]; rw [if_pos ⟨by omega, by omega⟩]; congr 1; omega, (Fr.w (Fr.n Fr.rf w_1) w_3 (Or.inr (by omega))), by omega⟩ ⟨(by first | exact Nat.le_refl _ | omega | (dsimp only; omega)), (by first | exact Nat.le_refl _ | omega | (dsimp only; omega))⟩

abbrev kJ16_copyOf_2 : aK := (yJ16_copyOf_2, cJ16_copyOf_2, 2, (Option.some (Jvm.ClassFile.FieldType.array (Jvm.ClassFile.FieldType.object "java/lang/Object"))), [])
theorem hcJ16_copyOf_2 : kJ16_copyOf_2.1.cls ≠ "java/lang/invoke/MethodHandle" ∧ kJ16_copyOf_2.1.cls ≠ "java/lang/invoke/VarHandle" ∧ (parseMethodDescriptor kJ16_copyOf_2.1.desc).map (fun d => d.parameters.length) = some 2 := ⟨by decide, by decide, by decide +kernel⟩
theorem ca_copy2 (G : aG) (h : hH) (a cap n : Nat) (f : Nat → Value) (hA : h.2 a = some (har 4 cap f)) (hcap : cap < 2 ^ 20) (hn : n < 2 ^ 20)(hel : ∀ j, j < cap → j < n → elOK h "java/lang/Object" (f j)) : Con G kJ16_copyOf_2 [.ref a, .int (nI n)] h ((3, 83, 1, n), (fun r h1 => ∃ (x : Nat) (g : Nat → Value), r = some (.ref x) ∧ gB G ≤ x ∧ x = h.1 ∧ h1.2 x = some (har 4 n g) ∧ (∀ j, j < min cap n → g j = f j) ∧ Fr nS h h1 ∧ h1.1 = h.1 + 1), nX) := by
  refine Con.of (plainFor_of_name rfl) rfl (Nat.le_of_ble_eq_true rfl) ?_
  refine AW.eq (lv2 := [(0, .ref a), (1, .int (nI n))]) (s2 := []) rfl rfl rfl rfl rfl ?_
  refine aw_know (fun gd hi => ?_)
  have lt_a : a < h.1 := hi.2.1 _ _ hA
  refine aw_aload_n (n := 1) dJ16_copyOf_2_0 rfl 0 rfl rfl ?_
  refine aw_iload_n (n := 2) dJ16_copyOf_2_1 rfl 1 rfl rfl ?_
  refine aw_aload_n (n := 3) dJ16_copyOf_2_2 rfl 0 rfl rfl ?_
  refine aw_getC (n := 6) (q := 1) dJ16_copyOf_2_3 q921 q3304 q3303 q922 q968 (List.Mem.tail _ (List.Mem.head _)) (Or.inr ⟨_, _, _, _, hA, rfl, rfl⟩) ⟨Nat.le_of_ble_eq_true rfl, Nat.le_of_ble_eq_true rfl⟩ rfl ?_
  refine aw_callS (n := 9) (As := [.ref a, .int (nI n), .ref (gM G 1)]) (rest := []) (K2 := kJ16_copyOf_3) dJ16_copyOf_2_6 q969 q970 q126 q971 hcJ16_copyOf_3 (ca_copy3 G h a cap n f hA hcap hn hel) rfl (Nat.le_of_ble_eq_true rfl) ⟨Nat.le_of_ble_eq_true rfl, Nat.le_of_ble_eq_true rfl⟩ ⟨by first | omega | (dsimp only; omega) | decide, by first | omega | (dsimp only; omega) | decide⟩ (fun _ _ _ z => z.elim) rfl (fun r_6 h_6 q_6 => ?_)
  obtain ⟨x_6, g_6, rfl, b_6, lx_6, hX_6, hg_6, hF_6, zz_6⟩ := q_6
  have zc_6 : h.1 ≤ h_6.1 := hF_6.1
  refine AW.sts (st' := [.ref x_6]) rfl ?_
  exact aw_aret dJ16_copyOf_2_9 rfl (Or.inr ⟨_, rfl⟩) (Or.inr ⟨_, rfl⟩) ⟨x_6, g_6, rfl, b_6, lx_6, hX_6, hg_6, hF_6, zz_6⟩ ⟨(by first | exact Nat.le_refl _ | omega | (dsimp only; omega)), (by first | exact Nat.le_refl _ | omega | (dsimp only; omega))⟩

abbrev kJ2_grow_2 : aK := (yJ2_grow_2, cJ2_grow_2, 4, (Option.some (Jvm.ClassFile.FieldType.array (Jvm.ClassFile.FieldType.object "java/lang/Object"))), [])
theorem hcJ2_grow_2 : kJ2_grow_2.1.cls ≠ "java/lang/invoke/MethodHandle" ∧ kJ2_grow_2.1.cls ≠ "java/lang/invoke/VarHandle" ∧ (parseMethodDescriptor kJ2_grow_2.1.desc).map (fun d => d.parameters.length) = some 1 := ⟨by decide, by decide, by decide +kernel⟩
theorem ca_growI (G : aG) (h : hH) (o a n : Nat) (mc : Int32) (f : Nat → Value) (hbo : gB G ≤ o) (hO : h.2 o = some (hob 24 [.int mc, .ref a, .int (nI n)])) (hA : h.2 a = some (har 4 n f)) (hn : n ≤ 1000) (hz : n = 0 → Value.ref a = gV G 33) (hel : ∀ j, j < n → elOK h "java/lang/Object" (f j)) : Con G kJ2_grow_2 [.ref o, .int (nI (n + 1))] h ((4, 104, 1, 1510), (fun r h1 => ∃ (x N : Nat) (g : Nat → Value), r = some (.ref x) ∧ gB G ≤ x ∧ x = h.1 ∧ h1.2 o = some (hob 24 [.int mc, .ref x, .int (nI n)]) ∧ h1.2 x = some (har 4 N g) ∧ n < N ∧ N ≤ 1510 ∧ (∀ j, j < n → g j = f j) ∧ Fr (fun q => q = o) h h1 ∧ h1.1 = h.1 + 1), nX) := by
  have hm1 := Nat.le_max_left 1 (n / 2); have hm2 := Nat.max_le (a := 1) (b := n / 2) (c := n / 2 + 1); have hm3 := Nat.le_max_left 10 (n + 1); have hm4 := Nat.le_max_right 10 (n + 1); have hm5 : max 1 (n / 2) ≤ n / 2 + 1 := Nat.max_le.mpr ⟨by omega, by omega⟩; have hm6 : n = 0 → max 10 (n + 1) ≤ 10 := fun e => Nat.max_le.mpr ⟨Nat.le_refl _, by omega⟩
  refine Con.of (plainFor_of_name rfl) rfl (Nat.le_of_ble_eq_true rfl) ?_
  refine AW.eq (lv2 := [(0, .ref o), (1, .int (nI (n + 1)))]) (s2 := []) rfl rfl rfl rfl rfl ?_
  refine aw_know (fun gd hi => ?_)
  have lt_o : o < h.1 := hi.2.1 _ _ hO
  have lt_a : a < h.1 := hi.2.1 _ _ hA
  obtain ⟨a0, e33⟩ := gd.2.2.2.2.2.2.2.1.2.2.1.1 33 (Or.inr rfl)
  refine aw_aload_n (n := 1) dJ2_grow_2_0 rfl 0 rfl rfl ?_
  refine aw_getf (n := 4) (v := .ref a) (C0 := RJ2) (T := TJ2) dJ2_grow_2_1 rfl 1 q197 (Or.inl rfl) hO rfl rfl ?_
  refine aw_alen (n := 5) (v := nI n) dJ2_grow_2_4 rfl hA rfl rfl ?_
  refine aw_istore_n (n := 6) (lv' := [(2, .int (nI n)), (0, .ref o), (1, .int (nI (n + 1)))]) dJ2_grow_2_5 rfl (by decide) rfl rfl ?_
  refine aw_iload_n (n := 7) dJ2_grow_2_6 rfl 0 rfl rfl ?_
  refine aw_if_gt (n := 10) (tgt := 20) dJ2_grow_2_7 (by decide) rfl (fun c_7 => ?_) (fun c_7 => ?_)
  · skip
    have n_7 : 0 < n := (nI_ltI (a := 0) (b := n) (by omega) (by omega)).mp (by rw [← ((by rfl) : (0 : Int32) = nI 0)]; exact c_7)
    refine aw_iload_n (n := 21) dJ2_grow_2_20 rfl 0 rfl rfl ?_
    refine aw_iload_n (n := 22) dJ2_grow_2_21 rfl 2 rfl rfl ?_
    refine aw_iload_n (n := 23) dJ2_grow_2_22 rfl 0 rfl rfl ?_
    refine aw_isub (n := 24) dJ2_grow_2_23 rfl ?_
    refine AW.sts (st' := [.int (nI 1), .int (nI n)]) (by rw [pk_sub (a := n + 1) (b := n) (Nat.le_succ n), Nat.add_sub_cancel_left]) ?_
    refine aw_iload_n (n := 25) dJ2_grow_2_24 rfl 0 rfl rfl ?_
    refine aw_iconst (n := 26) (v := 1) dJ2_grow_2_25 (by decide) rfl ?_
    refine aw_ishr (n := 27) dJ2_grow_2_26 rfl ?_
    refine AW.sts (st' := [.int (nI (n / 2)), .int (nI 1), .int (nI n)]) (by rw [nI_half (by omega)]) ?_
    refine aw_callS (n := 30) (As := [.int (nI n), .int (nI 1), .int (nI (n / 2))]) (rest := []) (K2 := kJ14_newLength) dJ2_grow_2_27 q917 q373 q124 q374 hcJ14_newLength (ca_newLen G h n 1 (n / 2) (by omega) (by decide) (by decide) (by omega)) rfl (Nat.le_of_ble_eq_true rfl) ⟨Nat.le_of_ble_eq_true rfl, Nat.le_of_ble_eq_true rfl⟩ ⟨by first | omega | (dsimp only; omega) | decide, by first | omega | (dsimp only; omega) | decide⟩ (fun _ _ _ z => z.elim) rfl (fun r_27 h_27 q_27 => ?_)
    obtain ⟨rfl, rfl⟩ := q_27
    refine AW.sts (st' := [.int (nI (n + max 1 (n / 2)))]) rfl ?_
    refine aw_istore_n (n := 31) (lv' := [(3, .int (nI (n + max 1 (n / 2)))), (2, .int (nI n)), (0, .ref o), (1, .int (nI (n + 1)))]) dJ2_grow_2_30 rfl (by decide) rfl rfl ?_
    refine aw_aload_n (n := 32) dJ2_grow_2_31 rfl 2 rfl rfl ?_
    refine aw_aload_n (n := 33) dJ2_grow_2_32 rfl 2 rfl rfl ?_
    refine aw_getf (n := 36) (v := .ref a) (C0 := RJ2) (T := TJ2) dJ2_grow_2_33 rfl 1 q197 (Or.inl rfl) hO rfl rfl ?_
    refine aw_iload_n (n := 37) dJ2_grow_2_36 rfl 0 rfl rfl ?_
    refine aw_callS (n := 40) (As := [.ref a, .int (nI (n + max 1 (n / 2)))]) (rest := [.ref o]) (K2 := kJ16_copyOf_2) dJ2_grow_2_37 q918 q919 q126 q920 hcJ16_copyOf_2 (ca_copy2 G h a n (n + max 1 (n / 2)) f hA (by omega) (by omega) (fun j hj _ => hel j hj)) rfl (Nat.le_of_ble_eq_true rfl) ⟨Nat.le_of_ble_eq_true rfl, Nat.le_of_ble_eq_true rfl⟩ ⟨by first | omega | (dsimp only; omega) | decide, by first | omega | (dsimp only; omega) | decide⟩ (fun _ _ _ z => z.elim) rfl (fun r_37 h_37 q_37 => ?_)
    obtain ⟨x_37, g_37, rfl, b_37, lx_37, hX_37, hg_37, hF_37, zz_37⟩ := q_37
    have zc_37 : h.1 ≤ h_37.1 := hF_37.1
    refine AW.sts (st' := [.ref x_37, .ref o]) rfl ?_
    refine aw_dup_x1 (n := 41) dJ2_grow_2_40 rfl rfl rfl ?_
    have f_1 : h_37.2 o = some (hob 24 [.int mc, .ref a, .int (nI n)]) := (hF_37.k (by omega) (fun z => z) hO)
    refine aw_putK (n := 44) (fs' := [.int mc, .ref x_37, .int (nI n)]) (C0 := RJ2) (T := TJ2) (N := 3) (ci := 24) dJ2_grow_2_41 rfl in_J2 tyJ2 tyJ2_ok nmJ2 q184 1 (by decide) q197 (Or.inl rfl) (by first | exact Or.inl rfl | exact Or.inr ⟨rfl, rfl, rfl⟩) rfl f_1 (by omega) rfl rfl (Nat.le_of_ble_eq_true rfl) rfl rfl (fun y_2 w_2 => ?_)
    have zy_2 : y_2.1 = h_37.1 := w_2.2.2
    have f_3 : y_2.2 x_37 = some (har 4 (n + max 1 (n / 2)) g_37) := (w_2.k (by omega) hX_37)
    exact aw_aret dJ2_grow_2_44 rfl (Or.inr ⟨_, rfl⟩) (Or.inr ⟨_, rfl⟩) ⟨x_37, (n + max 1 (n / 2)), _, rfl, b_37, by omega, w_2.1, f_3, by omega, by omega, (fun j hj => hg_37 j (by have := Nat.le_max_left 1 (n / 2); omega)), (Fr.w (Fr.c Fr.rf hF_37 (fun _ z => z.elim)) w_2 (Or.inl rfl)), by omega⟩ ⟨(by first | exact Nat.le_refl _ | omega | (dsimp only; omega)), (by first | exact Nat.le_refl _ | omega | (dsimp only; omega))⟩
  · skip
    have n_7 : ¬ (0 < n) := fun z => c_7 (by have y := (nI_ltI (a := 0) (b := n) (by omega) (by omega)).mpr z; rw [← ((by rfl) : (0 : Int32) = nI 0)] at y; exact y)
    refine aw_aload_n (n := 11) dJ2_grow_2_10 rfl 1 rfl rfl ?_
    refine aw_getf (n := 14) (v := .ref a) (C0 := RJ2) (T := TJ2) dJ2_grow_2_11 rfl 1 q197 (Or.inl rfl) hO rfl rfl ?_
    refine aw_gets (n := 17) (v := .ref a0) dJ2_grow_2_14 33 rfl q195 rfl e33 rfl ?_
    have e0 : a = a0 := by have z := (hz (by omega)).trans e33; cases z; rfl
    refine aw_acmp_eq (n := 20) (x := (some a)) (y := (some a0)) (tgt := 45) dJ2_grow_2_17 (by decide) rfl (fun _ => ?_) (fun z9 => absurd (congrArg some e0) z9)
    refine aw_aload_n (n := 46) dJ2_grow_2_45 rfl 1 rfl rfl ?_
    refine aw_bipush (n := 48) (v := 10) dJ2_grow_2_46 (by decide) rfl ?_
    refine aw_iload_n (n := 49) dJ2_grow_2_48 rfl 2 rfl rfl ?_
    refine AW.sts (st' := [.int (nI (n + 1)), .int (nI 10), .ref o]) (by rw [show (10 : Int32) = nI 10 from (by rfl)]) ?_
    refine aw_callS (n := 52) (As := [.int (nI 10), .int (nI (n + 1))]) (rest := [.ref o]) (K2 := kJ15_max) dJ2_grow_2_49 q975 q376 q125 q377 hcJ15_max (cj_maxI G h (nI 10) (nI (n + 1))) rfl (Nat.le_of_ble_eq_true rfl) ⟨Nat.le_of_ble_eq_true rfl, Nat.le_of_ble_eq_true rfl⟩ ⟨by first | omega | (dsimp only; omega) | decide, by first | omega | (dsimp only; omega) | decide⟩ (fun _ _ _ z => z.elim) rfl (fun r_49 h_49 q_49 => ?_)
    obtain ⟨rfl, rfl⟩ := q_49
    refine AW.sts (st' := [.int (nI (max 10 (n + 1))), .ref o]) (by rw [nI_max (by first | decide | omega) (by first | decide | omega)]; rfl) ?_
    refine aw_anewK (n := 55) (ti := 4) (N := (max 10 (n + 1))) dJ2_grow_2_52 rfl q976 q973 rfl (by omega) (by omega) (by first | omega | (dsimp only; omega) | decide) (by first | omega | (dsimp only; omega) | decide) rfl (by first | rfl | omega) (by first | rfl | omega) (fun y_4 u_4 bu_4 w_4 => ?_)
    have eu_4 : u_4 = h.1 := w_4.2.2.1
    have zy_4 : y_4.1 = u_4 + 1 := w_4.2.2.2
    refine aw_dup_x1 (n := 56) dJ2_grow_2_55 rfl rfl rfl ?_
    have f_5 : y_4.2 o = some (hob 24 [.int mc, .ref a, .int (nI n)]) := (w_4.k (by omega) hO)
    refine aw_putK (n := 59) (fs' := [.int mc, .ref u_4, .int (nI n)]) (C0 := RJ2) (T := TJ2) (N := 3) (ci := 24) dJ2_grow_2_56 rfl in_J2 tyJ2 tyJ2_ok nmJ2 q184 1 (by decide) q197 (Or.inl rfl) (by first | exact Or.inl rfl | exact Or.inr ⟨rfl, rfl, rfl⟩) rfl f_5 (by omega) rfl rfl (Nat.le_of_ble_eq_true rfl) rfl rfl (fun y_6 w_6 => ?_)
    have zy_6 : y_6.1 = y_4.1 := w_6.2.2
    have f_7 : y_6.2 u_4 = some (har 4 (max 10 (n + 1)) (fun _ => .null)) := (w_6.k (by omega) w_4.1)
    exact aw_aret dJ2_grow_2_59 rfl (Or.inr ⟨_, rfl⟩) (Or.inr ⟨_, rfl⟩) ⟨u_4, (max 10 (n + 1)), _, rfl, bu_4, by omega, w_6.1, f_7, by omega, by omega, (fun j hj => by omega), (Fr.w (Fr.n Fr.rf w_4) w_6 (Or.inl rfl)), by omega⟩ ⟨(by first | exact Nat.le_refl _ | omega | (dsimp only; omega)), (by first | exact Nat.le_refl _ | omega | (dsimp only; omega))⟩

abbrev kJ2_grow : aK := (yJ2_grow, cJ2_grow, 1, (Option.some (Jvm.ClassFile.FieldType.array (Jvm.ClassFile.FieldType.object "java/lang/Object"))), [])
theorem hcJ2_grow : kJ2_grow.1.cls ≠ "java/lang/invoke/MethodHandle" ∧ kJ2_grow.1.cls ≠ "java/lang/invoke/VarHandle" ∧ (parseMethodDescriptor kJ2_grow.1.desc).map (fun d => d.parameters.length) = some 0 := ⟨by decide, by decide, by decide +kernel⟩
theorem ca_grow (G : aG) (h : hH) (o a n : Nat) (mc : Int32) (f : Nat → Value) (hbo : gB G ≤ o) (hO : h.2 o = some (hob 24 [.int mc, .ref a, .int (nI n)])) (hA : h.2 a = some (har 4 n f)) (hn : n ≤ 1000) (hz : n = 0 → Value.ref a = gV G 33) (hel : ∀ j, j < n → elOK h "java/lang/Object" (f j)) : Con G kJ2_grow [.ref o] h ((5, 127, 1, 1510), (fun r h1 => ∃ (x N : Nat) (g : Nat → Value), r = some (.ref x) ∧ gB G ≤ x ∧ x = h.1 ∧ h1.2 o = some (hob 24 [.int mc, .ref x, .int (nI n)]) ∧ h1.2 x = some (har 4 N g) ∧ n < N ∧ N ≤ 1510 ∧ (∀ j, j < n → g j = f j) ∧ Fr (fun q => q = o) h h1 ∧ h1.1 = h.1 + 1), nX) := by
  refine Con.of (plainFor_of_name rfl) rfl (Nat.le_of_ble_eq_true rfl) ?_
  refine AW.eq (lv2 := [(0, .ref o)]) (s2 := []) rfl rfl rfl rfl rfl ?_
  refine aw_know (fun gd hi => ?_)
  have lt_o : o < h.1 := hi.2.1 _ _ hO
  have lt_a : a < h.1 := hi.2.1 _ _ hA
  refine aw_aload_n (n := 1) dJ2_grow_0 rfl 0 rfl rfl ?_
  refine aw_aload_n (n := 2) dJ2_grow_1 rfl 0 rfl rfl ?_
  refine aw_getf (n := 5) (v := .int (nI n)) (C0 := RJ2) (T := TJ2) dJ2_grow_2 rfl 2 q200 (Or.inl rfl) hO rfl rfl ?_
  refine aw_iconst (n := 6) (v := 1) dJ2_grow_5 (by decide) rfl ?_
  refine aw_iadd (n := 7) dJ2_grow_6 rfl ?_
  refine AW.sts (st' := [.int (nI (n + 1)), .ref o]) (by rw [show (nI n) + 1 = nI (n + 1) from (nI_1 _)]) ?_
  refine aw_callV (n := 10) (C0 := RJ2) (As := [.int (nI (n + 1))]) (rest := []) (K2 := kJ2_grow_2) dJ2_grow_7 q913 q915 qs4 q110 q916 ⟨rfl, hcJ2_grow_2⟩ rfl hO (ca_growI G h o a n mc f hbo hO hA hn hz hel) rfl (Nat.le_of_ble_eq_true rfl) ⟨Nat.le_of_ble_eq_true rfl, Nat.le_of_ble_eq_true rfl⟩ ⟨by first | omega | (dsimp only; omega) | decide, by first | omega | (dsimp only; omega) | decide⟩ (fun _ _ _ z => z.elim) rfl (fun r_7 h_7 q_7 => ?_)
  obtain ⟨x_7, N_7, g_7, rfl, b_7, lx_7, hO_7, hX_7, lN_7, uN_7, hg_7, hF_7, zz_7⟩ := q_7
  have zc_7 : h.1 ≤ h_7.1 := hF_7.1
  refine AW.sts (st' := [.ref x_7]) rfl ?_
  exact aw_aret dJ2_grow_10 rfl (Or.inr ⟨_, rfl⟩) (Or.inr ⟨_, rfl⟩) ⟨x_7, N_7, g_7, rfl, b_7, lx_7, hO_7, hX_7, lN_7, uN_7, hg_7, hF_7, zz_7⟩ ⟨(by first | exact Nat.le_refl _ | omega | (dsimp only; omega)), (by first | exact Nat.le_refl _ | omega | (dsimp only; omega))⟩

end
