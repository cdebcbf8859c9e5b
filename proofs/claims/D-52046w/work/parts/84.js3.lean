/-! StringBuilder. -/
section
set_option maxRecDepth 100000
/-- a StringBuilder at b over the array v: the first n signs of t, room for cap -/
def isSB (h : hH) (b v : Nat) (t : Nat → Nat) (n cap : Nat) : Prop := ∃ f : Nat → Value, h.2 b = some (hob 28 [.ref v, .int 0, .int 0, .int (nI n)]) ∧ h.2 v = some (har 2 cap f) ∧ n ≤ cap ∧ (∀ j, j < n → f j = .int (sb_b (t j))) ∧ (∀ j, j < cap → fits .byte (f j) = true)
theorem nI_sub_le {a b : Nat} (h : a ≤ b) (hb : b < 2 ^ 30) : nI a - nI b ≤ 0 := by
  by_cases e : a = b
  · subst e; rw [Int32.sub_self]; exact Int32.le_refl _
  · exact Int32.le_of_lt (pk_sneg hb (by omega))
abbrev kJ10_isLatin1 : aK := (yJ10_isLatin1, cJ10_isLatin1, 1, (Option.some Jvm.ClassFile.FieldType.boolean), [])
theorem hcJ10_isLatin1 : kJ10_isLatin1.1.cls ≠ "java/lang/invoke/MethodHandle" ∧ kJ10_isLatin1.1.cls ≠ "java/lang/invoke/VarHandle" ∧ (parseMethodDescriptor kJ10_isLatin1.1.desc).map (fun d => d.parameters.length) = some 0 := ⟨by decide, by decide, by decide +kernel⟩
theorem cs_bl (G : aG) (h : hH) (b v n cap : Nat) (t : Nat → Nat) (hS : isSB h b v t n cap) : Con G kJ10_isLatin1 [.ref b] h ((1, 0, 0, 0), (fun r h1 => r = some (.int 1) ∧ h = h1), nX) := by
  obtain ⟨f, hB, hV, hnc, hf, hft⟩ := hS
  refine Con.of (plainFor_of_name rfl) rfl (Nat.le_of_ble_eq_true rfl) ?_
  refine AW.eq (lv2 := [(0, .ref b)]) (s2 := []) rfl rfl rfl rfl rfl ?_
  refine aw_know (fun gd hi => ?_)
  have lt_b : b < h.1 := hi.2.1 _ _ hB
  have lt_v : v < h.1 := hi.2.1 _ _ hV
  refine aw_gets (n := 3) (v := .int 1) dJ10_isLatin1_0 32 rfl q335 rfl gd.2.2.2.2.2.2.2.1.2.2.1.2.1 rfl ?_
  refine aw_if_eq (n := 6) (tgt := 17) dJ10_isLatin1_3 (by decide) rfl (fun c_3 => ?_) (fun c_3 => ?_)
  · skip
    exact absurd c_3 (by decide +kernel)
  · skip
    refine aw_aload_n (n := 7) dJ10_isLatin1_6 rfl 0 rfl rfl ?_
    refine aw_getf (n := 10) (v := .int 0) (C0 := RJ11) (T := TJ11) dJ10_isLatin1_7 rfl 1 q345 (Or.inl rfl) hB rfl rfl ?_
    refine aw_if_ne (n := 13) (tgt := 17) dJ10_isLatin1_10 (by decide) rfl (fun c_10 => ?_) (fun c_10 => ?_)
    · skip
      exact absurd c_10 (by decide +kernel)
    · skip
      refine aw_iconst (n := 14) (v := 1) dJ10_isLatin1_13 (by decide) rfl ?_
      refine aw_goto (tgt := 18) dJ10_isLatin1_14 (by decide) ?_
      exact aw_zret dJ10_isLatin1_18 rfl (by decide) ⟨rfl, rfl⟩ ⟨Nat.zero_le _, Nat.zero_le _⟩

abbrev kJ10_getValue : aK := (yJ10_getValue, cJ10_getValue, 1, (Option.some (Jvm.ClassFile.FieldType.array Jvm.ClassFile.FieldType.byte)), [])
theorem hcJ10_getValue : kJ10_getValue.1.cls ≠ "java/lang/invoke/MethodHandle" ∧ kJ10_getValue.1.cls ≠ "java/lang/invoke/VarHandle" ∧ (parseMethodDescriptor kJ10_getValue.1.desc).map (fun d => d.parameters.length) = some 0 := ⟨by decide, by decide, by decide +kernel⟩
theorem cs_bval (G : aG) (h : hH) (b v n cap : Nat) (t : Nat → Nat) (hS : isSB h b v t n cap) : Con G kJ10_getValue [.ref b] h ((1, 0, 0, 0), (fun r h1 => r = some (.ref v) ∧ h = h1), nX) := by
  obtain ⟨f, hB, hV, hnc, hf, hft⟩ := hS
  refine Con.of (plainFor_of_name rfl) rfl (Nat.le_of_ble_eq_true rfl) ?_
  refine AW.eq (lv2 := [(0, .ref b)]) (s2 := []) rfl rfl rfl rfl rfl ?_
  refine aw_know (fun gd hi => ?_)
  have lt_b : b < h.1 := hi.2.1 _ _ hB
  have lt_v : v < h.1 := hi.2.1 _ _ hV
  refine aw_aload_n (n := 1) dJ10_getValue_0 rfl 0 rfl rfl ?_
  refine aw_getf (n := 4) (v := .ref v) (C0 := RJ11) (T := TJ11) dJ10_getValue_1 rfl 0 q344 (Or.inl rfl) hB rfl rfl ?_
  exact aw_aret dJ10_getValue_4 rfl (Or.inr ⟨_, rfl⟩) (Or.inr ⟨_, rfl⟩) ⟨rfl, rfl⟩ ⟨Nat.zero_le _, Nat.zero_le _⟩

theorem dJ10_length_0 : decode cJ10_length 0 = .ok (.aload_n 0, 1) := by decide +kernel
theorem dJ10_length_1 : decode cJ10_length 1 = .ok (.getfield 79, 3) := by decide +kernel
theorem dJ10_length_4 : decode cJ10_length 4 = .ok (.ireturn, 1) := by decide +kernel
abbrev kJ10_length : aK := (yJ10_length, cJ10_length, 1, (Option.some Jvm.ClassFile.FieldType.int), [])
theorem hcJ10_length : kJ10_length.1.cls ≠ "java/lang/invoke/MethodHandle" ∧ kJ10_length.1.cls ≠ "java/lang/invoke/VarHandle" ∧ (parseMethodDescriptor kJ10_length.1.desc).map (fun d => d.parameters.length) = some 0 := ⟨by decide, by decide, by decide +kernel⟩
theorem cs_blA (G : aG) (h : hH) (b v n cap : Nat) (t : Nat → Nat) (hS : isSB h b v t n cap) : Con G kJ10_length [.ref b] h ((1, 0, 0, 0), (fun r h1 => r = some (.int (nI n)) ∧ h = h1), nX) := by
  obtain ⟨f, hB, hV, hnc, hf, hft⟩ := hS
  refine Con.of (plainFor_of_name rfl) rfl (Nat.le_of_ble_eq_true rfl) ?_
  refine AW.eq (lv2 := [(0, .ref b)]) (s2 := []) rfl rfl rfl rfl rfl ?_
  refine aw_know (fun gd hi => ?_)
  have lt_b : b < h.1 := hi.2.1 _ _ hB
  have lt_v : v < h.1 := hi.2.1 _ _ hV
  refine aw_aload_n (n := 1) dJ10_length_0 rfl 0 rfl rfl ?_
  refine aw_getf (n := 4) (v := .int (nI n)) (C0 := RJ11) (T := TJ11) dJ10_length_1 rfl 3 q347 (Or.inl rfl) hB rfl rfl ?_
  exact aw_iret dJ10_length_4 rfl ⟨rfl, rfl⟩ ⟨Nat.zero_le _, Nat.zero_le _⟩

abbrev kJ11_length : aK := (yJ11_length, cJ11_length, 1, (Option.some Jvm.ClassFile.FieldType.int), [])
theorem hcJ11_length : kJ11_length.1.cls ≠ "java/lang/invoke/MethodHandle" ∧ kJ11_length.1.cls ≠ "java/lang/invoke/VarHandle" ∧ (parseMethodDescriptor kJ11_length.1.desc).map (fun d => d.parameters.length) = some 0 := ⟨by decide, by decide, by decide +kernel⟩
theorem cs_blen (G : aG) (h : hH) (b v n cap : Nat) (t : Nat → Nat) (hS : isSB h b v t n cap) : Con G kJ11_length [.ref b] h ((2, 20, 0, 0), (fun r h1 => r = some (.int (nI n)) ∧ h = h1), nX) := by
  have hS0 := hS
  obtain ⟨f, hB, hV, hnc, hf, hft⟩ := hS
  refine Con.of (plainFor_of_name rfl) rfl (Nat.le_of_ble_eq_true rfl) ?_
  refine AW.eq (lv2 := [(0, .ref b)]) (s2 := []) rfl rfl rfl rfl rfl ?_
  refine aw_know (fun gd hi => ?_)
  have lt_b : b < h.1 := hi.2.1 _ _ hB
  have lt_v : v < h.1 := hi.2.1 _ _ hV
  refine aw_aload_n (n := 1) dJ11_length_0 rfl 0 rfl rfl ?_
  refine aw_callSU (n := 4) (C0 := RJ11) (As := []) (rest := []) (K2 := kJ10_length) dJ11_length_1 q476 q472 q356 q471 q120 q477 q327 ⟨by decide, hcJ10_length.2.2⟩ rfl hB (cs_blA G h b v n cap t hS0) rfl (Nat.le_of_ble_eq_true rfl) ⟨Nat.le_of_ble_eq_true rfl, Nat.le_of_ble_eq_true rfl⟩ ⟨by first | omega | (dsimp only; omega) | decide, by first | omega | (dsimp only; omega) | decide⟩ (fun _ _ _ z => z.elim) rfl (fun r_1 h_1 q_1 => ?_)
  obtain ⟨rfl, rfl⟩ := q_1
  refine AW.sts (st' := [.int (nI n)]) rfl ?_
  exact aw_iret dJ11_length_4 rfl ⟨rfl, rfl⟩ ⟨Nat.zero_le _, Nat.zero_le _⟩

abbrev kJ10_init : aK := (yJ10_init, cJ10_init, 2, (Option.none : Option Jvm.ClassFile.FieldType), [])
theorem hcJ10_init : kJ10_init.1.cls ≠ "java/lang/invoke/MethodHandle" ∧ kJ10_init.1.cls ≠ "java/lang/invoke/VarHandle" ∧ (parseMethodDescriptor kJ10_init.1.desc).map (fun d => d.parameters.length) = some 1 := ⟨by decide, by decide, by decide +kernel⟩
theorem cs_abI (G : aG) (h : hH) (b : Nat) (hbb : gB G ≤ b) (hB : h.2 b = some (hob 28 [.null, .int 0, .int 0, .int 0])) : Con G kJ10_init [.ref b, .int 16] h ((2, 24, 1, 16), (fun r h1 => r = none ∧ (∃ v, isSB h1 b v (fun _ => 0) 0 16 ∧ h.1 ≤ v ∧ gB G ≤ v) ∧ Fr (fun q => q = b) h h1 ∧ h1.1 = h.1 + 1), nX) := by
  refine Con.of (plainFor_of_name rfl) rfl (Nat.le_of_ble_eq_true rfl) ?_
  refine AW.eq (lv2 := [(0, .ref b), (1, .int 16)]) (s2 := []) rfl rfl rfl rfl rfl ?_
  refine aw_know (fun gd hi => ?_)
  have lt_b : b < h.1 := hi.2.1 _ _ hB
  refine aw_aload_n (n := 1) dJ10_init_0 rfl 0 rfl rfl ?_
  refine aw_objInit (n := 4) dJ10_init_1 q334 ⟨Nat.le_of_ble_eq_true rfl, Nat.le_of_ble_eq_true rfl⟩ rfl ?_
  refine aw_gets (n := 7) (v := .int 1) dJ10_init_4 32 rfl q335 rfl gd.2.2.2.2.2.2.2.1.2.2.1.2.1 rfl ?_
  refine aw_if_eq (n := 10) (tgt := 25) dJ10_init_7 (by decide) rfl (fun c_7 => ?_) (fun c_7 => ?_)
  · skip
    exact absurd c_7 (by decide +kernel)
  · skip
    refine aw_aload_n (n := 11) dJ10_init_10 rfl 0 rfl rfl ?_
    refine aw_iload_n (n := 12) dJ10_init_11 rfl 1 rfl rfl ?_
    refine AW.sts (st' := [.int (nI 16), .ref b]) (by rw [show ((16 : Int32) : Int32) = nI 16 from (by rfl)]) ?_
    refine aw_newaK (n := 14) (ti := 2) (N := 16) (v := .int 0) dJ10_init_12 rfl rfl rfl q212 rfl rfl (by first | decide | (show _ * _ ≤ _; omega) | (simp only [componentBytes]; omega)) (by first | decide | omega) (by first | omega | (dsimp only; omega) | decide) (by first | omega | (dsimp only; omega) | decide) rfl (by first | rfl | omega) (by first | rfl | omega) (fun y_1 u_1 bu_1 w_1 => ?_)
    have eu_1 : u_1 = h.1 := w_1.2.2.1
    have zy_1 : y_1.1 = u_1 + 1 := w_1.2.2.2
    have f_2 : y_1.2 b = some (hob 28 [.null, .int 0, .int 0, .int 0]) := (w_1.k (by omega) hB)
    refine aw_putK (n := 17) (fs' := [.ref u_1, .int 0, .int 0, .int 0]) (C0 := RJ11) (T := TJ11) (N := 4) (ci := 28) dJ10_init_14 rfl in_J11 tyJ11 tyJ11_ok nmJ11 q327 0 (by decide) q344 (Or.inl rfl) (by first | exact Or.inl rfl | exact Or.inr ⟨rfl, rfl, rfl⟩) rfl f_2 (by omega) rfl rfl (Nat.le_of_ble_eq_true rfl) rfl rfl (fun y_3 w_3 => ?_)
    have zy_3 : y_3.1 = y_1.1 := w_3.2.2
    refine aw_aload_n (n := 18) dJ10_init_17 rfl 0 rfl rfl ?_
    refine aw_iconst (n := 19) (v := 0) dJ10_init_18 (by decide) rfl ?_
    refine aw_putK (n := 22) (fs' := [.ref u_1, .int 0, .int 0, .int 0]) (C0 := RJ11) (T := TJ11) (N := 4) (ci := 28) dJ10_init_19 rfl in_J11 tyJ11 tyJ11_ok nmJ11 q327 1 (by decide) q345 (Or.inl rfl) (by first | exact Or.inl rfl | exact Or.inr ⟨rfl, rfl, rfl⟩) rfl w_3.1 (by omega) rfl rfl (Nat.le_of_ble_eq_true rfl) rfl rfl (fun y_4 w_4 => ?_)
    have zy_4 : y_4.1 = y_3.1 := w_4.2.2
    refine aw_goto (tgt := 38) dJ10_init_22 (by decide) ?_
    have f_5 : y_4.2 u_1 = some (har 2 16 (fun _ => .int 0)) := (w_4.k (by omega) (w_3.k (by omega) w_1.1))
    exact aw_vret dJ10_init_38 rfl ⟨rfl, ⟨u_1, ⟨_, w_4.1, f_5, by omega, fun j hj => absurd hj (Nat.not_lt_zero _), fun _ _ => rfl⟩, by omega, bu_1⟩, (Fr.w (Fr.w (Fr.n Fr.rf w_1) w_3 (Or.inl rfl)) w_4 (Or.inl rfl)), by omega⟩ ⟨(by first | exact Nat.le_refl _ | omega | (dsimp only; omega)), (by first | exact Nat.le_refl _ | omega | (dsimp only; omega))⟩

abbrev kJ11_init : aK := (yJ11_init, cJ11_init, 1, (Option.none : Option Jvm.ClassFile.FieldType), [])
theorem hcJ11_init : kJ11_init.1.cls ≠ "java/lang/invoke/MethodHandle" ∧ kJ11_init.1.cls ≠ "java/lang/invoke/VarHandle" ∧ (parseMethodDescriptor kJ11_init.1.desc).map (fun d => d.parameters.length) = some 0 := ⟨by decide, by decide, by decide +kernel⟩
theorem cs_bI (G : aG) (h : hH) (b : Nat) (hbb : gB G ≤ b) (hB : h.2 b = some (hob 28 [.null, .int 0, .int 0, .int 0])) : Con G kJ11_init [.ref b] h ((3, 45, 1, 16), (fun r h1 => r = none ∧ (∃ v, isSB h1 b v (fun _ => 0) 0 16 ∧ h.1 ≤ v ∧ gB G ≤ v) ∧ Fr (fun q => q = b) h h1 ∧ h1.1 = h.1 + 1), nX) := by
  refine Con.of (plainFor_of_name rfl) rfl (Nat.le_of_ble_eq_true rfl) ?_
  refine AW.eq (lv2 := [(0, .ref b)]) (s2 := []) rfl rfl rfl rfl rfl ?_
  refine aw_know (fun gd hi => ?_)
  have lt_b : b < h.1 := hi.2.1 _ _ hB
  refine aw_aload_n (n := 1) dJ11_init_0 rfl 0 rfl rfl ?_
  refine aw_bipush (n := 3) (v := 16) dJ11_init_1 (by decide) rfl ?_
  refine aw_callI (n := 6) (As := [.int 16]) (rest := []) (K2 := kJ10_init) dJ11_init_3 q331 q332 q120 q333 rfl rfl hcJ10_init (cs_abI G h b hbb hB) rfl (Nat.le_of_ble_eq_true rfl) ⟨Nat.le_of_ble_eq_true rfl, Nat.le_of_ble_eq_true rfl⟩ ⟨by first | omega | (dsimp only; omega) | decide, by first | omega | (dsimp only; omega) | decide⟩ (fun _ _ _ z => z.elim) rfl (fun r_3 h_3 q_3 => ?_)
  obtain ⟨rfl, ⟨v_3, hS_3, lv_3, bv_3⟩, hF_3, zz_3⟩ := q_3
  have zc_3 : h.1 ≤ h_3.1 := hF_3.1
  refine AW.sts (st' := []) rfl ?_
  exact aw_vret dJ11_init_6 rfl ⟨rfl, ⟨v_3, hS_3, lv_3, bv_3⟩, hF_3, zz_3⟩ ⟨(by first | exact Nat.le_refl _ | omega | (dsimp only; omega)), (by first | exact Nat.le_refl _ | omega | (dsimp only; omega))⟩

abbrev kJ10_newCapacity : aK := (yJ10_newCapacity, cJ10_newCapacity, 6, (Option.some Jvm.ClassFile.FieldType.int), [])
theorem hcJ10_newCapacity : kJ10_newCapacity.1.cls ≠ "java/lang/invoke/MethodHandle" ∧ kJ10_newCapacity.1.cls ≠ "java/lang/invoke/VarHandle" ∧ (parseMethodDescriptor kJ10_newCapacity.1.desc).map (fun d => d.parameters.length) = some 1 := ⟨by decide, by decide, by decide +kernel⟩
theorem cs_ncap (G : aG) (h : hH) (b v n cap : Nat) (t : Nat → Nat) (hS : isSB h b v t n cap) (hcap : cap ≤ 8000) : Con G kJ10_newCapacity [.ref b, .int (nI (cap + 1))] h ((3, 44, 0, 0), (fun r h1 => r = some (.int (nI (2 * cap + 2))) ∧ h = h1), nX) := by
  obtain ⟨f, hB, hV, hnc, hf, hft⟩ := hS
  refine Con.of (plainFor_of_name rfl) rfl (Nat.le_of_ble_eq_true rfl) ?_
  refine AW.eq (lv2 := [(0, .ref b), (1, .int (nI (cap + 1)))]) (s2 := []) rfl rfl rfl rfl rfl ?_
  refine aw_know (fun gd hi => ?_)
  have lt_b : b < h.1 := hi.2.1 _ _ hB
  have lt_v : v < h.1 := hi.2.1 _ _ hV
  refine aw_aload_n (n := 1) dJ10_newCapacity_0 rfl 0 rfl rfl ?_
  refine aw_getf (n := 4) (v := .ref v) (C0 := RJ11) (T := TJ11) dJ10_newCapacity_1 rfl 0 q344 (Or.inl rfl) hB rfl rfl ?_
  refine aw_alen (n := 5) (v := nI cap) dJ10_newCapacity_4 rfl hV rfl rfl ?_
  refine aw_istore_n (n := 6) (lv' := [(2, .int (nI cap)), (0, .ref b), (1, .int (nI (cap + 1)))]) dJ10_newCapacity_5 rfl (by decide) rfl rfl ?_
  refine aw_iload_n (n := 7) dJ10_newCapacity_6 rfl 2 rfl rfl ?_
  refine aw_aload_n (n := 8) dJ10_newCapacity_7 rfl 1 rfl rfl ?_
  refine aw_getf (n := 11) (v := .int 0) (C0 := RJ11) (T := TJ11) dJ10_newCapacity_8 rfl 1 q345 (Or.inl rfl) hB rfl rfl ?_
  refine aw_ishl (n := 12) dJ10_newCapacity_11 rfl ?_
  refine aw_istore_n (n := 13) (lv' := [(3, .int ((nI (cap + 1)) <<< (0 &&& 31))), (2, .int (nI cap)), (0, .ref b), (1, .int (nI (cap + 1)))]) dJ10_newCapacity_12 rfl (by decide) rfl rfl ?_
  refine aw_iload_n (n := 14) dJ10_newCapacity_13 rfl 0 rfl rfl ?_
  refine aw_iload_n (n := 15) dJ10_newCapacity_14 rfl 1 rfl rfl ?_
  refine aw_isub (n := 16) dJ10_newCapacity_15 rfl ?_
  refine aw_istore (n := 18) (lv' := [(4, .int (((nI (cap + 1)) <<< (0 &&& 31)) - (nI cap))), (3, .int ((nI (cap + 1)) <<< (0 &&& 31))), (2, .int (nI cap)), (0, .ref b), (1, .int (nI (cap + 1)))]) dJ10_newCapacity_16 (by decide) rfl rfl ?_
  refine aw_iload_n (n := 19) dJ10_newCapacity_18 rfl 2 rfl rfl ?_
  refine aw_iload (n := 21) dJ10_newCapacity_19 0 rfl rfl ?_
  refine aw_iload_n (n := 22) dJ10_newCapacity_21 rfl 2 rfl rfl ?_
  refine aw_iconst (n := 23) (v := 2) dJ10_newCapacity_22 (by decide) rfl ?_
  refine aw_aload_n (n := 24) dJ10_newCapacity_23 rfl 3 rfl rfl ?_
  refine aw_getf (n := 27) (v := .int 0) (C0 := RJ11) (T := TJ11) dJ10_newCapacity_24 rfl 1 q345 (Or.inl rfl) hB rfl rfl ?_
  refine aw_ishl (n := 28) dJ10_newCapacity_27 rfl ?_
  refine aw_iadd (n := 29) dJ10_newCapacity_28 rfl ?_
  refine AW.sts (st' := [.int (nI (cap + 2)), .int (((nI (cap + 1)) <<< (0 &&& 31)) - (nI cap)), .int (nI cap)]) (by rw [show ((nI cap) + ((2 : Int32) <<< (0 &&& 31)) : Int32) = nI (cap + 2) from (by rw [show (nI cap : Int32) = nI cap from rfl, show ((2 : Int32) <<< (0 &&& 31) : Int32) = nI 2 from ((sb_shl0 _).trans (by rfl))]; exact nI_add _ _)]) ?_
  refine AW.sts (st' := [.int (nI (cap + 2)), .int (nI ((cap + 1) - cap)), .int (nI cap)]) (by rw [show (((nI (cap + 1)) <<< (0 &&& 31)) - (nI cap) : Int32) = nI ((cap + 1) - cap) from (by rw [show ((nI (cap + 1)) <<< (0 &&& 31)) = nI (cap + 1) from ((sb_shl0 _).trans (rfl : (nI (cap + 1)) = nI (cap + 1))), show (nI cap) = nI cap from rfl]; exact pk_sub (by omega))]) ?_
  refine aw_callS (n := 32) (As := [.int (nI cap), .int (nI ((cap + 1) - cap)), .int (nI (cap + 2))]) (rest := []) (K2 := kJ14_newLength) dJ10_newCapacity_29 q372 q373 q124 q374 hcJ14_newLength (ca_newLen G h cap ((cap + 1) - cap) (cap + 2) (by omega) (by omega) (by omega) (by omega)) rfl (Nat.le_of_ble_eq_true rfl) ⟨Nat.le_of_ble_eq_true rfl, Nat.le_of_ble_eq_true rfl⟩ ⟨by first | omega | (dsimp only; omega) | decide, by first | omega | (dsimp only; omega) | decide⟩ (fun _ _ _ z => z.elim) rfl (fun r_29 h_29 q_29 => ?_)
  obtain ⟨rfl, rfl⟩ := q_29
  refine AW.sts (st' := [.int (nI (cap + max ((cap + 1) - cap) (cap + 2)))]) rfl ?_
  refine AW.sts (st' := [.int (nI (2 * cap + 2))]) (by rw [show (2 * cap + 2 : Nat) = cap + max (cap + 1 - cap) (cap + 2) by omega]) ?_
  refine aw_istore (n := 34) (lv' := [(5, .int (nI (2 * cap + 2))), (4, .int (((nI (cap + 1)) <<< (0 &&& 31)) - (nI cap))), (3, .int ((nI (cap + 1)) <<< (0 &&& 31))), (2, .int (nI cap)), (0, .ref b), (1, .int (nI (cap + 1)))]) dJ10_newCapacity_32 (by decide) rfl rfl ?_
  refine aw_iload (n := 36) dJ10_newCapacity_34 0 rfl rfl ?_
  refine aw_ldcI (n := 38) (v := 2147483647) dJ10_newCapacity_36 q382 rfl ?_
  refine aw_icmp_ne (n := 41) (tgt := 51) dJ10_newCapacity_38 (by decide) rfl (fun c_38 => ?_) (fun c_38 => ?_)
  · skip
    have n_38 : ¬ ((2 * cap + 2) = 2147483647) := fun z => c_38 (by have y := (nI_eq (a := (2 * cap + 2)) (b := 2147483647) (by omega) (by omega)).mpr z; rw [← ((by rfl) : (2147483647 : Int32) = nI 2147483647)] at y; exact y)
    refine aw_iload (n := 53) dJ10_newCapacity_51 0 rfl rfl ?_
    refine aw_aload_n (n := 54) dJ10_newCapacity_53 rfl 4 rfl rfl ?_
    refine aw_getf (n := 57) (v := .int 0) (C0 := RJ11) (T := TJ11) dJ10_newCapacity_54 rfl 1 q345 (Or.inl rfl) hB rfl rfl ?_
    refine aw_ishr (n := 58) dJ10_newCapacity_57 rfl ?_
    exact aw_iret dJ10_newCapacity_58 rfl ⟨by rw [shr0], rfl⟩ ⟨Nat.zero_le _, Nat.zero_le _⟩
  · skip
    have n_38 : (2 * cap + 2) = 2147483647 := (nI_eq (a := (2 * cap + 2)) (b := 2147483647) (by omega) (by omega)).mp (by rw [← ((by rfl) : (2147483647 : Int32) = nI 2147483647)]; exact c_38)
    exfalso; omega

abbrev kJ10_ensureCapacityInternal : aK := (yJ10_ensureCapacityInternal, cJ10_ensureCapacityInternal, 3, (Option.none : Option Jvm.ClassFile.FieldType), [])
theorem hcJ10_ensureCapacityInternal : kJ10_ensureCapacityInternal.1.cls ≠ "java/lang/invoke/MethodHandle" ∧ kJ10_ensureCapacityInternal.1.cls ≠ "java/lang/invoke/VarHandle" ∧ (parseMethodDescriptor kJ10_ensureCapacityInternal.1.desc).map (fun d => d.parameters.length) = some 1 := ⟨by decide, by decide, by decide +kernel⟩
theorem cs_ens (G : aG) (h : hH) (b v n cap : Nat) (t : Nat → Nat) (hS : isSB h b v t n cap) (hbb : gB G ≤ b) (hbv : gB G ≤ v) (hcap : cap ≤ 8000) : Con G kJ10_ensureCapacityInternal [.ref b, .int (nI (n + 1))] h ((4, 82, (if n = cap then 1 else 0), (if n = cap then 2 * cap + 2 else 0)), (fun r h1 => r = none ∧ (∃ v1 cap1 : Nat, isSB h1 b v1 t n cap1 ∧ n < cap1 ∧ gB G ≤ v1 ∧ ((v1 = v ∧ cap1 = cap ∧ ¬ n = cap ∧ h1 = h) ∨ (h.1 ≤ v1 ∧ cap1 = 2 * cap + 2 ∧ n = cap ∧ h1.1 = h.1 + 1))) ∧ Fr (fun q => q = b) h h1), nX) := by
  have hS0 := hS
  obtain ⟨f, hB, hV, hnc, hf, hft⟩ := hS
  refine Con.of (plainFor_of_name rfl) rfl (Nat.le_of_ble_eq_true rfl) ?_
  refine AW.eq (lv2 := [(0, .ref b), (1, .int (nI (n + 1)))]) (s2 := []) rfl rfl rfl rfl rfl ?_
  refine aw_know (fun gd hi => ?_)
  have lt_b : b < h.1 := hi.2.1 _ _ hB
  have lt_v : v < h.1 := hi.2.1 _ _ hV
  refine aw_aload_n (n := 1) dJ10_ensureCapacityInternal_0 rfl 0 rfl rfl ?_
  refine aw_getf (n := 4) (v := .ref v) (C0 := RJ11) (T := TJ11) dJ10_ensureCapacityInternal_1 rfl 0 q344 (Or.inl rfl) hB rfl rfl ?_
  refine aw_alen (n := 5) (v := nI cap) dJ10_ensureCapacityInternal_4 rfl hV rfl rfl ?_
  refine aw_aload_n (n := 6) dJ10_ensureCapacityInternal_5 rfl 0 rfl rfl ?_
  refine aw_getf (n := 9) (v := .int 0) (C0 := RJ11) (T := TJ11) dJ10_ensureCapacityInternal_6 rfl 1 q345 (Or.inl rfl) hB rfl rfl ?_
  refine aw_ishr (n := 10) dJ10_ensureCapacityInternal_9 rfl ?_
  refine AW.sts (st' := [.int (nI cap)]) (by rw [show ((nI cap) >>> (0 &&& 31) : Int32) = nI cap from ((sb_shr0 _).trans (rfl : (nI cap) = nI cap))]) ?_
  refine aw_istore_n (n := 11) (lv' := [(2, .int (nI cap)), (0, .ref b), (1, .int (nI (n + 1)))]) dJ10_ensureCapacityInternal_10 rfl (by decide) rfl rfl ?_
  refine aw_iload_n (n := 12) dJ10_ensureCapacityInternal_11 rfl 2 rfl rfl ?_
  refine aw_iload_n (n := 13) dJ10_ensureCapacityInternal_12 rfl 0 rfl rfl ?_
  refine aw_isub (n := 14) dJ10_ensureCapacityInternal_13 rfl ?_
  by_cases en : n = cap
  · skip
    subst en
    rw [if_pos rfl, if_pos rfl]
    refine AW.eq (lv2 := [(2, .int (nI n)), (0, .ref b), (1, .int (nI (n + 1)))]) (s2 := [.int 1]) rfl (by rw [pk_sub (a := n + 1) (b := n) (Nat.le_succ n), Nat.add_sub_cancel_left]; rfl) rfl rfl rfl ?_
    refine aw_if_le (n := 17) (tgt := 38) dJ10_ensureCapacityInternal_14 (by decide) rfl (fun c_14_2 => ?_) (fun c_14_2 => ?_)
    · skip
      exact absurd c_14_2 (by decide +kernel)
    · skip
      refine aw_aload_n (n := 18) dJ10_ensureCapacityInternal_17 rfl 1 rfl rfl ?_
      refine aw_aload_n (n := 19) dJ10_ensureCapacityInternal_18 rfl 1 rfl rfl ?_
      refine aw_getf (n := 22) (v := .ref v) (C0 := RJ11) (T := TJ11) dJ10_ensureCapacityInternal_19 rfl 0 q344 (Or.inl rfl) hB rfl rfl ?_
      refine aw_aload_n (n := 23) dJ10_ensureCapacityInternal_22 rfl 1 rfl rfl ?_
      refine aw_iload_n (n := 24) dJ10_ensureCapacityInternal_23 rfl 2 rfl rfl ?_
      refine aw_callUP (n := 27) (C0 := RJ11) (As := [.int (nI (n + 1))]) (rest := [.ref v, .ref b]) (K2 := kJ10_newCapacity) dJ10_ensureCapacityInternal_24 q368 q3206 q369 q327 q370 q120 q371 hcJ10_newCapacity rfl hB (cs_ncap G h b v n n t hS0 (by omega)) rfl (Nat.le_of_ble_eq_true rfl) ⟨Nat.le_of_ble_eq_true rfl, Nat.le_of_ble_eq_true rfl⟩ ⟨by first | omega | (dsimp only; omega) | decide, by first | omega | (dsimp only; omega) | decide⟩ (fun _ _ _ z => z.elim) rfl (fun r_24 h_24 q_24 => ?_)
      obtain ⟨rfl, rfl⟩ := q_24
      refine AW.sts (st' := [.int (nI (2 * n + 2)), .ref v, .ref b]) rfl ?_
      refine aw_aload_n (n := 28) dJ10_ensureCapacityInternal_27 rfl 1 rfl rfl ?_
      refine aw_getf (n := 31) (v := .int 0) (C0 := RJ11) (T := TJ11) dJ10_ensureCapacityInternal_28 rfl 1 q345 (Or.inl rfl) hB rfl rfl ?_
      refine aw_ishl (n := 32) dJ10_ensureCapacityInternal_31 rfl ?_
      refine AW.sts (st' := [.int (nI (2 * n + 2)), .ref v, .ref b]) (by rw [show ((nI (2 * n + 2)) <<< (0 &&& 31) : Int32) = nI (2 * n + 2) from ((sb_shl0 _).trans (rfl : (nI (2 * n + 2)) = nI (2 * n + 2)))]) ?_
      refine aw_callS (n := 35) (As := [.ref v, .int (nI (2 * n + 2))]) (rest := [.ref b]) (K2 := kJ16_copyOf) dJ10_ensureCapacityInternal_32 q383 q384 q126 q385 hcJ16_copyOf (cs_cob G h v n (2 * n + 2) f hV hft (by omega) (by omega)) rfl (Nat.le_of_ble_eq_true rfl) ⟨Nat.le_of_ble_eq_true rfl, Nat.le_of_ble_eq_true rfl⟩ ⟨by first | omega | (dsimp only; omega) | decide, by first | omega | (dsimp only; omega) | decide⟩ (fun _ _ _ z => z.elim) rfl (fun r_32 h_32 q_32 => ?_)
      obtain ⟨x_32, g_32, rfl, b_32, lx_32, hX_32, hg_32, ht_32, hF_32, zz_32⟩ := q_32
      have zc_32 : h.1 ≤ h_32.1 := hF_32.1
      refine AW.sts (st' := [.ref x_32, .ref b]) rfl ?_
      have f_1 : h_32.2 b = some (hob 28 [.ref v, .int 0, .int 0, .int (nI n)]) := (hF_32.k (by omega) (fun z => z) hB)
      refine aw_putK (n := 38) (fs' := [.ref x_32, .int 0, .int 0, .int (nI n)]) (C0 := RJ11) (T := TJ11) (N := 4) (ci := 28) dJ10_ensureCapacityInternal_35 rfl in_J11 tyJ11 tyJ11_ok nmJ11 q327 0 (by decide) q344 (Or.inl rfl) (by first | exact Or.inl rfl | exact Or.inr ⟨rfl, rfl, rfl⟩) rfl f_1 (by omega) rfl rfl (Nat.le_of_ble_eq_true rfl) rfl rfl (fun y_2 w_2 => ?_)
      have zy_2 : y_2.1 = h_32.1 := w_2.2.2
      have f_3 : y_2.2 x_32 = some (har 2 (2 * n + 2) g_32) := (w_2.k (by omega) hX_32)
      exact aw_vret dJ10_ensureCapacityInternal_38 rfl ⟨rfl, ⟨x_32, 2 * n + 2, ⟨g_32, w_2.1, f_3, by omega, fun j hj => (hg_32 j hj).trans (hf j hj), ht_32⟩, by omega, b_32, Or.inr ⟨by omega, rfl, rfl, by omega⟩⟩, (Fr.w (Fr.c Fr.rf hF_32 (fun _ z => z.elim)) w_2 (Or.inl rfl))⟩ ⟨(by first | exact Nat.le_refl _ | omega | (dsimp only; omega)), (by first | exact Nat.le_refl _ | omega | (dsimp only; omega))⟩
  · skip
    refine aw_if_le (n := 17) (tgt := 38) dJ10_ensureCapacityInternal_14 (by decide) rfl (fun _ => ?_) (fun z9 => absurd (nI_sub_le (by omega) (by omega)) z9)
    exact aw_vret dJ10_ensureCapacityInternal_38 rfl ⟨rfl, ⟨v, cap, hS0, by omega, hbv, Or.inl ⟨rfl, rfl, en, rfl⟩⟩, Fr.rf⟩ ⟨Nat.zero_le _, Nat.zero_le _⟩

abbrev kJ17_canEncode : aK := (yJ17_canEncode, cJ17_canEncode, 1, (Option.some Jvm.ClassFile.FieldType.boolean), [])
theorem hcJ17_canEncode : kJ17_canEncode.1.cls ≠ "java/lang/invoke/MethodHandle" ∧ kJ17_canEncode.1.cls ≠ "java/lang/invoke/VarHandle" ∧ (parseMethodDescriptor kJ17_canEncode.1.desc).map (fun d => d.parameters.length) = some 1 := ⟨by decide, by decide, by decide +kernel⟩
theorem cs_encC (G : aG) (h : hH) (k : Nat) (hk : k < 256) : Con G kJ17_canEncode [.int (nI k)] h ((1, 0, 0, 0), (fun r h1 => r = some (.int 1) ∧ h = h1), nX) := by
  refine Con.of (plainFor_of_name rfl) rfl (Nat.le_of_ble_eq_true rfl) ?_
  refine AW.eq (lv2 := [(0, .int (nI k))]) (s2 := []) rfl rfl rfl rfl rfl ?_
  refine aw_iload_n (n := 1) dJ17_canEncode_0 rfl 0 rfl rfl ?_
  refine aw_sipush (n := 4) (v := 255) dJ17_canEncode_1 (by decide) rfl ?_
  refine aw_icmp_gt (n := 7) (tgt := 11) dJ17_canEncode_4 (by decide) rfl (fun c_4 => ?_) (fun c_4 => ?_)
  · skip
    have n_4 : 255 < k := (nI_ltI (a := 255) (b := k) (by omega) (by omega)).mp (by rw [← ((by rfl) : (255 : Int32) = nI 255)]; exact c_4)
    exfalso; omega
  · skip
    have n_4 : ¬ (255 < k) := fun z => c_4 (by have y := (nI_ltI (a := 255) (b := k) (by omega) (by omega)).mpr z; rw [← ((by rfl) : (255 : Int32) = nI 255)] at y; exact y)
    refine aw_iconst (n := 8) (v := 1) dJ17_canEncode_7 (by decide) rfl ?_
    refine aw_goto (tgt := 12) dJ17_canEncode_8 (by decide) ?_
    exact aw_zret dJ17_canEncode_12 rfl (by decide) ⟨rfl, rfl⟩ ⟨Nat.zero_le _, Nat.zero_le _⟩

theorem sb_pt : ∀ k : Nat, k < 256 → (nI k).toInt8.toInt32.toInt8.toInt32 = sb_b k := by decide +kernel
abbrev kJ10_append : aK := (yJ10_append, cJ10_append, 2, (Option.some (Jvm.ClassFile.FieldType.object "java/lang/AbstractStringBuilder")), [])
theorem hcJ10_append : kJ10_append.1.cls ≠ "java/lang/invoke/MethodHandle" ∧ kJ10_append.1.cls ≠ "java/lang/invoke/VarHandle" ∧ (parseMethodDescriptor kJ10_append.1.desc).map (fun d => d.parameters.length) = some 1 := ⟨by decide, by decide, by decide +kernel⟩
theorem cs_app1 (G : aG) (h : hH) (b v n cap : Nat) (t : Nat → Nat) (hS : isSB h b v t n cap) (hbb : gB G ≤ b) (hbv : gB G ≤ v) (hcap : cap ≤ 8000) (k : Nat) (hk : k < 256) (ht : t n = k) : Con G kJ10_append [.ref b, .int (nI k)] h ((5, 104, (if n = cap then 1 else 0), (if n = cap then 2 * cap + 2 else 0)), (fun r h1 => r = some (.ref b) ∧ (∃ v1 cap1 : Nat, isSB h1 b v1 t (n + 1) cap1 ∧ gB G ≤ v1 ∧ ((v1 = v ∧ cap1 = cap ∧ ¬ n = cap ∧ h1.1 = h.1) ∨ (h.1 ≤ v1 ∧ cap1 = 2 * cap + 2 ∧ n = cap ∧ h1.1 = h.1 + 1))) ∧ Fr (fun q => q = b ∨ q = v) h h1), nX) := by
  have hS0 := hS
  obtain ⟨f, hB, hV, hnc, hf, hft⟩ := hS
  refine Con.of (plainFor_of_name rfl) rfl (Nat.le_of_ble_eq_true rfl) ?_
  refine AW.eq (lv2 := [(0, .ref b), (1, .int (nI k))]) (s2 := []) rfl rfl rfl rfl rfl ?_
  refine aw_know (fun gd hi => ?_)
  have lt_b : b < h.1 := hi.2.1 _ _ hB
  have lt_v : v < h.1 := hi.2.1 _ _ hV
  refine aw_aload_n (n := 1) dJ10_append_0 rfl 0 rfl rfl ?_
  refine aw_aload_n (n := 2) dJ10_append_1 rfl 0 rfl rfl ?_
  refine aw_getf (n := 5) (v := .int (nI n)) (C0 := RJ11) (T := TJ11) dJ10_append_2 rfl 3 q347 (Or.inl rfl) hB rfl rfl ?_
  refine aw_iconst (n := 6) (v := 1) dJ10_append_5 (by decide) rfl ?_
  refine aw_iadd (n := 7) dJ10_append_6 rfl ?_
  refine AW.sts (st' := [.int (nI (n + 1)), .ref b]) (by rw [show ((nI n) + 1 : Int32) = nI (n + 1) from (nI_1 _)]) ?_
  refine aw_callUP (n := 10) (C0 := RJ11) (As := [.int (nI (n + 1))]) (rest := []) (K2 := kJ10_ensureCapacityInternal) dJ10_append_7 q364 q3205 q365 q327 q366 q120 q367 hcJ10_ensureCapacityInternal rfl hB (cs_ens G h b v n cap t hS0 hbb hbv hcap) rfl (Nat.le_of_ble_eq_true rfl) ⟨Nat.le_of_ble_eq_true rfl, Nat.le_of_ble_eq_true rfl⟩ ⟨by first | omega | (dsimp only; omega) | decide, by first | omega | (dsimp only; omega) | decide⟩ (fun _ _ _ z => z.elim) rfl (fun r_7 h_7 q_7 => ?_)
  obtain ⟨rfl, ⟨v1, cap1, ⟨f1, hB1, hV1, hnc1, hf1, hft1⟩, hlt1, hbv1, hor⟩, hF_7⟩ := q_7
  have zc_7 : h.1 ≤ h_7.1 := hF_7.1
  have hvv : v1 = v ∨ h.1 ≤ v1 := by rcases hor with z | z; exact Or.inl z.1; exact Or.inr z.1
  have nbv : b ≠ v1 := ne_kind hB1 hV1 ob_ar
  refine AW.eq (s2 := []) (c2 := (if n = cap then 1 else 0)) (d2 := (if n = cap then 2 * cap + 2 else 0)) rfl rfl rfl (Nat.zero_add _) (Nat.zero_add _) ?_
  refine aw_aload_n (n := 11) dJ10_append_10 rfl 0 rfl rfl ?_
  refine aw_callU (n := 14) "java/lang/AbstractStringBuilder" (C0 := RJ11) (As := []) (rest := []) (K2 := kJ10_isLatin1) (x := ⟨"java/lang/AbstractStringBuilder", "isLatin1", "()Z"⟩) dJ10_append_11 q399 q401 (Or.inr ⟨q400, _, _, _, q403⟩) q402 q400 q120 q403 ⟨by decide, by decide, (show (parseMethodDescriptor "()Z").map (fun d => d.parameters.length) = some 0 from by decide +kernel)⟩ rfl hB1 (cs_bl G h_7 b v1 n cap1 t ⟨f1, hB1, hV1, hnc1, hf1, hft1⟩) rfl (Nat.le_of_ble_eq_true rfl) ⟨Nat.le_of_ble_eq_true rfl, Nat.le_of_ble_eq_true rfl⟩ ⟨by first | omega | (dsimp only; omega) | decide, by first | omega | (dsimp only; omega) | decide⟩ (fun _ _ _ z => z.elim) rfl (fun r_11 h_11 q_11 => ?_)
  obtain ⟨rfl, rfl⟩ := q_11
  refine AW.sts (st' := [.int 1]) rfl ?_
  refine aw_if_eq (n := 17) (tgt := 45) dJ10_append_14 (by decide) rfl (fun c_14 => ?_) (fun c_14 => ?_)
  · skip
    exact absurd c_14 (by decide +kernel)
  · skip
    refine aw_iload_n (n := 18) dJ10_append_17 rfl 1 rfl rfl ?_
    refine aw_callS (n := 21) (As := [.int (nI k)]) (rest := []) (K2 := kJ17_canEncode) dJ10_append_18 q404 q405 q128 q406 hcJ17_canEncode (cs_encC G h_7 k hk) rfl (Nat.le_of_ble_eq_true rfl) ⟨Nat.le_of_ble_eq_true rfl, Nat.le_of_ble_eq_true rfl⟩ ⟨by first | omega | (dsimp only; omega) | decide, by first | omega | (dsimp only; omega) | decide⟩ (fun _ _ _ z => z.elim) rfl (fun r_18 h_18 q_18 => ?_)
    obtain ⟨rfl, rfl⟩ := q_18
    refine AW.sts (st' := [.int 1]) rfl ?_
    refine aw_if_eq (n := 24) (tgt := 45) dJ10_append_21 (by decide) rfl (fun c_21 => ?_) (fun c_21 => ?_)
    · skip
      exact absurd c_21 (by decide +kernel)
    · skip
      refine aw_aload_n (n := 25) dJ10_append_24 rfl 0 rfl rfl ?_
      refine aw_getf (n := 28) (v := .ref v1) (C0 := RJ11) (T := TJ11) dJ10_append_25 rfl 0 q344 (Or.inl rfl) hB1 rfl rfl ?_
      refine aw_aload_n (n := 29) dJ10_append_28 rfl 0 rfl rfl ?_
      refine aw_dup (n := 30) dJ10_append_29 rfl rfl ?_
      refine aw_getf (n := 33) (v := .int (nI n)) (C0 := RJ11) (T := TJ11) dJ10_append_30 rfl 3 q347 (Or.inl rfl) hB1 rfl rfl ?_
      refine aw_dup_x1 (n := 34) dJ10_append_33 rfl rfl rfl ?_
      refine aw_iconst (n := 35) (v := 1) dJ10_append_34 (by decide) rfl ?_
      refine aw_iadd (n := 36) dJ10_append_35 rfl ?_
      refine AW.sts (st' := [.int (nI (n + 1)), .ref b, .int (nI n), .ref v1]) (by rw [show ((nI n) + 1 : Int32) = nI (n + 1) from (nI_1 _)]) ?_
      refine aw_putK (n := 39) (fs' := [.ref v1, .int 0, .int 0, .int (nI (n + 1))]) (C0 := RJ11) (T := TJ11) (N := 4) (ci := 28) dJ10_append_36 rfl in_J11 tyJ11 tyJ11_ok nmJ11 q327 3 (by decide) q347 (Or.inl rfl) (by first | exact Or.inl rfl | exact Or.inr ⟨rfl, rfl, rfl⟩) rfl hB1 (by omega) rfl rfl (Nat.le_of_ble_eq_true rfl) rfl rfl (fun y_1 w_1 => ?_)
      have zy_1 : y_1.1 = h_7.1 := w_1.2.2
      refine aw_iload_n (n := 40) dJ10_append_39 rfl 1 rfl rfl ?_
      refine aw_i2b (n := 41) dJ10_append_40 rfl rfl ?_
      have f_2 : y_1.2 v1 = some (har 2 cap1 f1) := (w_1.k (Ne.symm nbv) hV1)
      refine aw_bastK (n := 42) (ti := 2) (N := cap1) (f' := updV f1 n (.int ((nI k).toInt8.toInt32).toInt8.toInt32)) dJ10_append_41 rfl n rfl f_2 hbv1 (by omega) (by omega) rfl rfl (fun y_3 w_3 => ?_)
      have zy_3 : y_3.1 = y_1.1 := w_3.2.2
      refine aw_goto (tgt := 75) dJ10_append_42 (by decide) ?_
      refine aw_aload_n (n := 76) dJ10_append_75 rfl 0 rfl rfl ?_
      have f_4 : y_3.2 b = some (hob 28 [.ref v1, .int 0, .int 0, .int (nI (n + 1))]) := (w_3.k nbv w_1.1)
      exact aw_aret dJ10_append_76 rfl (Or.inl ⟨_, rfl⟩) (Or.inr ⟨_, rfl⟩) ⟨rfl, ⟨v1, cap1, ⟨_, f_4, w_3.1, by omega, fun j hj => by simp only [updV]; by_cases e : j = n; subst e; rw [if_pos rfl, ht]; rw [sb_pt k hk]; rw [if_neg e]; exact hf1 j (by omega), fun j hj => by simp only [updV]; split; exact pk_fb _; exact hft1 j hj⟩, hbv1, by rcases hor with ⟨z1, z2, z3, z4⟩ | z; exact Or.inl ⟨z1, z2, z3, by have z5 := congrArg Prod.fst z4; omega⟩; exact Or.inr ⟨z.1, z.2.1, z.2.2.1, by have := z.2.2.2; omega⟩⟩, (Fr.w (Fr.w (Fr.c Fr.rf hF_7 (fun a9 z9 => by have z9 : a9 = b := z9; rw [z9]; exact (Or.inl (Or.inl rfl)))) w_1 (Or.inl (Or.inl rfl))) w_3 (by rcases hvv with z | z; exact Or.inl (Or.inr z); exact Or.inr z))⟩ ⟨(by first | exact Nat.le_refl _ | omega | (dsimp only; omega)), (by first | exact Nat.le_refl _ | omega | (dsimp only; omega))⟩

abbrev kJ11_append : aK := (yJ11_append, cJ11_append, 2, (Option.some (Jvm.ClassFile.FieldType.object "java/lang/StringBuilder")), [])
theorem hcJ11_append : kJ11_append.1.cls ≠ "java/lang/invoke/MethodHandle" ∧ kJ11_append.1.cls ≠ "java/lang/invoke/VarHandle" ∧ (parseMethodDescriptor kJ11_append.1.desc).map (fun d => d.parameters.length) = some 1 := ⟨by decide, by decide, by decide +kernel⟩
theorem cs_app (G : aG) (h : hH) (b v n cap : Nat) (t : Nat → Nat) (hS : isSB h b v t n cap) (hbb : gB G ≤ b) (hbv : gB G ≤ v) (hcap : cap ≤ 8000) (k : Nat) (hk : k < 256) (ht : t n = k) : Con G kJ11_append [.ref b, .int (nI k)] h ((6, 125, (if n = cap then 1 else 0), (if n = cap then 2 * cap + 2 else 0)), (fun r h1 => r = some (.ref b) ∧ (∃ v1 cap1 : Nat, isSB h1 b v1 t (n + 1) cap1 ∧ gB G ≤ v1 ∧ ((v1 = v ∧ cap1 = cap ∧ ¬ n = cap ∧ h1.1 = h.1) ∨ (h.1 ≤ v1 ∧ cap1 = 2 * cap + 2 ∧ n = cap ∧ h1.1 = h.1 + 1))) ∧ Fr (fun q => q = b ∨ q = v) h h1), nX) := by
  have hS0 := hS
  obtain ⟨f, hB, hV, hnc, hf, hft⟩ := hS
  refine Con.of (plainFor_of_name rfl) rfl (Nat.le_of_ble_eq_true rfl) ?_
  refine AW.eq (lv2 := [(0, .ref b), (1, .int (nI k))]) (s2 := []) rfl rfl rfl rfl rfl ?_
  refine aw_know (fun gd hi => ?_)
  have lt_b : b < h.1 := hi.2.1 _ _ hB
  have lt_v : v < h.1 := hi.2.1 _ _ hV
  refine aw_aload_n (n := 1) dJ11_append_0 rfl 0 rfl rfl ?_
  refine aw_iload_n (n := 2) dJ11_append_1 rfl 1 rfl rfl ?_
  refine aw_callSU (n := 5) (C0 := RJ11) (As := [.int (nI k)]) (rest := []) (K2 := kJ10_append) dJ11_append_2 q361 q3204 q356 q362 q120 q363 q327 ⟨by decide, hcJ10_append.2.2⟩ rfl hB (cs_app1 G h b v n cap t hS0 hbb hbv hcap k hk ht) rfl (Nat.le_of_ble_eq_true rfl) ⟨Nat.le_of_ble_eq_true rfl, Nat.le_of_ble_eq_true rfl⟩ ⟨by first | omega | (dsimp only; omega) | decide, by first | omega | (dsimp only; omega) | decide⟩ (fun _ _ _ z => z.elim) rfl (fun r_2 h_2 q_2 => ?_)
  obtain ⟨rfl, hE_2, hF_2⟩ := q_2
  have zc_2 : h.1 ≤ h_2.1 := hF_2.1
  refine AW.eq (s2 := [.ref b]) (c2 := (if n = cap then 1 else 0)) (d2 := (if n = cap then 2 * cap + 2 else 0)) rfl rfl rfl (Nat.zero_add _) (Nat.zero_add _) ?_
  refine aw_pop (n := 6) dJ11_append_5 rfl rfl ?_
  refine aw_aload_n (n := 7) dJ11_append_6 rfl 0 rfl rfl ?_
  exact aw_aret dJ11_append_7 rfl (Or.inl ⟨_, rfl⟩) (Or.inr ⟨_, rfl⟩) ⟨rfl, hE_2, hF_2⟩ ⟨(by first | exact Nat.le_refl _ | omega | (dsimp only; omega)), (by first | exact Nat.le_refl _ | omega | (dsimp only; omega))⟩

abbrev kJ12_init_2 : aK := (yJ12_init_2, cJ12_init_2, 5, (Option.none : Option Jvm.ClassFile.FieldType), [])
theorem hcJ12_init_2 : kJ12_init_2.1.cls ≠ "java/lang/invoke/MethodHandle" ∧ kJ12_init_2.1.cls ≠ "java/lang/invoke/VarHandle" ∧ (parseMethodDescriptor kJ12_init_2.1.desc).map (fun d => d.parameters.length) = some 2 := ⟨by decide, by decide, by decide +kernel⟩
theorem cs_sI1 (G : aG) (h : hH) (b v n cap : Nat) (t : Nat → Nat) (hS : isSB h b v t n cap) (hcap : cap ≤ 4000) (a : Nat) (hba : gB G ≤ a) (hA : h.2 a = some (hob 29 [.null, .int 0, .int 0, .int 0])) : Con G kJ12_init_2 [.ref a, .ref b, .null] h ((4, 106, 1, n), (fun r h1 => r = none ∧ (∃ (u : Nat) (g : Nat → Value), h1.2 a = some (hob 29 [.ref u, .int 0, .int 0, .int 0]) ∧ h1.2 u = some (har 2 (n - 0) g) ∧ (∀ j, j < n → g j = .int (sb_b (t j))) ∧ h.1 ≤ u ∧ gB G ≤ u) ∧ Fr (fun q => q = a) h h1 ∧ h1.1 = h.1 + 1), nX) := by
  have hS0 := hS
  obtain ⟨f, hB, hV, hnc, hf, hft⟩ := hS
  refine Con.of (plainFor_of_name rfl) rfl (Nat.le_of_ble_eq_true rfl) ?_
  refine AW.eq (lv2 := [(0, .ref a), (1, .ref b), (2, .null)]) (s2 := []) rfl rfl rfl rfl rfl ?_
  refine aw_know (fun gd hi => ?_)
  have lt_b : b < h.1 := hi.2.1 _ _ hB
  have lt_a : a < h.1 := hi.2.1 _ _ hA
  have lt_v : v < h.1 := hi.2.1 _ _ hV
  refine aw_aload_n (n := 1) dJ12_init_2_0 rfl 0 rfl rfl ?_
  refine aw_objInit (n := 4) dJ12_init_2_1 q464 ⟨Nat.le_of_ble_eq_true rfl, Nat.le_of_ble_eq_true rfl⟩ rfl ?_
  refine aw_aload_n (n := 5) dJ12_init_2_4 rfl 1 rfl rfl ?_
  refine aw_callU (n := 8) "java/lang/AbstractStringBuilder" (C0 := RJ11) (As := []) (rest := []) (K2 := kJ10_getValue) (x := ⟨"java/lang/AbstractStringBuilder", "getValue", "()[B"⟩) dJ12_init_2_5 q465 q467 (Or.inr ⟨q466, _, _, _, q469⟩) q468 q466 q120 q469 ⟨by decide, by decide, (show (parseMethodDescriptor "()[B").map (fun d => d.parameters.length) = some 0 from by decide +kernel)⟩ rfl hB (cs_bval G h b v n cap t hS0) rfl (Nat.le_of_ble_eq_true rfl) ⟨Nat.le_of_ble_eq_true rfl, Nat.le_of_ble_eq_true rfl⟩ ⟨by first | omega | (dsimp only; omega) | decide, by first | omega | (dsimp only; omega) | decide⟩ (fun _ _ _ z => z.elim) rfl (fun r_5 h_5 q_5 => ?_)
  obtain ⟨rfl, rfl⟩ := q_5
  refine AW.sts (st' := [.ref v]) rfl ?_
  refine aw_astore_n (n := 9) (lv' := [(3, .ref v), (0, .ref a), (1, .ref b), (2, .null)]) dJ12_init_2_8 rfl (by decide) rfl rfl ?_
  refine aw_aload_n (n := 10) dJ12_init_2_9 rfl 2 rfl rfl ?_
  refine aw_callU (n := 13) "java/lang/AbstractStringBuilder" (C0 := RJ11) (As := []) (rest := []) (K2 := kJ11_length) (x := ⟨"java/lang/AbstractStringBuilder", "length", "()I"⟩) dJ12_init_2_10 q470 q472 (Or.inr ⟨q471, _, _, _, q477⟩) q473 q474 q121 q475 ⟨by decide, by decide, (show (parseMethodDescriptor "()I").map (fun d => d.parameters.length) = some 0 from by decide +kernel)⟩ rfl hB (cs_blen G h b v n cap t hS0) rfl (Nat.le_of_ble_eq_true rfl) ⟨Nat.le_of_ble_eq_true rfl, Nat.le_of_ble_eq_true rfl⟩ ⟨by first | omega | (dsimp only; omega) | decide, by first | omega | (dsimp only; omega) | decide⟩ (fun _ _ _ z => z.elim) rfl (fun r_10 h_10 q_10 => ?_)
  obtain ⟨rfl, rfl⟩ := q_10
  refine AW.sts (st' := [.int (nI n)]) rfl ?_
  refine aw_istore (n := 15) (lv' := [(4, .int (nI n)), (3, .ref v), (0, .ref a), (1, .ref b), (2, .null)]) dJ12_init_2_13 (by decide) rfl rfl ?_
  refine aw_aload_n (n := 16) dJ12_init_2_15 rfl 3 rfl rfl ?_
  refine aw_callU (n := 19) "java/lang/AbstractStringBuilder" (C0 := RJ11) (As := []) (rest := []) (K2 := kJ10_isLatin1) (x := ⟨"java/lang/AbstractStringBuilder", "isLatin1", "()Z"⟩) dJ12_init_2_16 q478 q401 (Or.inr ⟨q400, _, _, _, q403⟩) q402 q400 q120 q403 ⟨by decide, by decide, (show (parseMethodDescriptor "()Z").map (fun d => d.parameters.length) = some 0 from by decide +kernel)⟩ rfl hB (cs_bl G h b v n cap t hS0) rfl (Nat.le_of_ble_eq_true rfl) ⟨Nat.le_of_ble_eq_true rfl, Nat.le_of_ble_eq_true rfl⟩ ⟨by first | omega | (dsimp only; omega) | decide, by first | omega | (dsimp only; omega) | decide⟩ (fun _ _ _ z => z.elim) rfl (fun r_16 h_16 q_16 => ?_)
  obtain ⟨rfl, rfl⟩ := q_16
  refine AW.sts (st' := [.int 1]) rfl ?_
  refine aw_if_eq (n := 22) (tgt := 41) dJ12_init_2_19 (by decide) rfl (fun c_19 => ?_) (fun c_19 => ?_)
  · skip
    exact absurd c_19 (by decide +kernel)
  · skip
    refine aw_aload_n (n := 23) dJ12_init_2_22 rfl 2 rfl rfl ?_
    refine aw_iconst (n := 24) (v := 0) dJ12_init_2_23 (by decide) rfl ?_
    refine aw_putK (n := 27) (fs' := [.null, .int 0, .int 0, .int 0]) (C0 := RJ12) (T := TJ12) (N := 4) (ci := 29) dJ12_init_2_24 rfl in_J12 tyJ12 tyJ12_ok nmJ12 q457 1 (by decide) q646 (Or.inl rfl) (by first | exact Or.inl rfl | exact Or.inr ⟨rfl, rfl, rfl⟩) rfl hA (by omega) rfl rfl (Nat.le_of_ble_eq_true rfl) rfl rfl (fun y_1 w_1 => ?_)
    have zy_1 : y_1.1 = h.1 := w_1.2.2
    refine aw_aload_n (n := 28) dJ12_init_2_27 rfl 2 rfl rfl ?_
    refine aw_aload_n (n := 29) dJ12_init_2_28 rfl 1 rfl rfl ?_
    refine aw_iconst (n := 30) (v := 0) dJ12_init_2_29 (by decide) rfl ?_
    refine aw_iload (n := 32) dJ12_init_2_30 0 rfl rfl ?_
    refine AW.sts (st' := [.int (nI n), .int (nI 0), .ref v, .ref a]) (by rw [show ((0 : Int32) : Int32) = nI 0 from (by rfl)]) ?_
    have f_2 : y_1.2 v = some (har 2 cap f) := (w_1.k (ne_kind hV hA ar_ob) hV)
    refine aw_callS (n := 35) (As := [.ref v, .int (nI 0), .int (nI n)]) (rest := [.ref a]) (K2 := kJ16_copyOfRange) dJ12_init_2_32 q479 q480 q126 q481 hcJ16_copyOfRange (cs_cr G y_1 v cap 0 n f f_2 hft hcap (Nat.zero_le _) hnc) rfl (Nat.le_of_ble_eq_true rfl) ⟨Nat.le_of_ble_eq_true rfl, Nat.le_of_ble_eq_true rfl⟩ ⟨by first | omega | (dsimp only; omega) | decide, by first | omega | (dsimp only; omega) | decide⟩ (fun _ _ _ z => z.elim) rfl (fun r_32 h_32 q_32 => ?_)
    obtain ⟨x_32, g_32, rfl, b_32, lx_32, hX_32, hg_32, hF_32, zz_32⟩ := q_32
    have zc_32 : y_1.1 ≤ h_32.1 := hF_32.1
    refine AW.eq (s2 := [.ref x_32, .ref a]) (c2 := 1) (d2 := n) rfl rfl rfl rfl (by show 0 + (n - 0) = n; omega) ?_
    have f_3 : h_32.2 a = some (hob 29 [.null, .int 0, .int 0, .int 0]) := (hF_32.k (by omega) (fun z => z) w_1.1)
    refine aw_putK (n := 38) (fs' := [.ref x_32, .int 0, .int 0, .int 0]) (C0 := RJ12) (T := TJ12) (N := 4) (ci := 29) dJ12_init_2_35 rfl in_J12 tyJ12 tyJ12_ok nmJ12 q457 0 (by decide) q645 (Or.inl rfl) (by first | exact Or.inl rfl | exact Or.inr ⟨rfl, rfl, rfl⟩) rfl f_3 (by omega) rfl rfl (Nat.le_of_ble_eq_true rfl) rfl rfl (fun y_4 w_4 => ?_)
    have zy_4 : y_4.1 = h_32.1 := w_4.2.2
    refine aw_goto (tgt := 97) dJ12_init_2_38 (by decide) ?_
    have f_5 : y_4.2 x_32 = some (har 2 (n - 0) g_32) := (w_4.k (by omega) hX_32)
    exact aw_vret dJ12_init_2_97 rfl ⟨rfl, ⟨x_32, g_32, w_4.1, f_5, fun j hj => by rw [hg_32 j (by omega), Nat.zero_add]; exact hf j hj, by omega, b_32⟩, (Fr.w (Fr.c (Fr.w Fr.rf w_1 (Or.inl rfl)) hF_32 (fun _ z => z.elim)) w_4 (Or.inl rfl)), by omega⟩ ⟨(by first | exact Nat.le_refl _ | omega | (dsimp only; omega)), (by first | exact Nat.le_refl _ | omega | (dsimp only; omega))⟩

abbrev kJ12_init : aK := (yJ12_init, cJ12_init, 2, (Option.none : Option Jvm.ClassFile.FieldType), [])
theorem hcJ12_init : kJ12_init.1.cls ≠ "java/lang/invoke/MethodHandle" ∧ kJ12_init.1.cls ≠ "java/lang/invoke/VarHandle" ∧ (parseMethodDescriptor kJ12_init.1.desc).map (fun d => d.parameters.length) = some 1 := ⟨by decide, by decide, by decide +kernel⟩
theorem cs_sI2 (G : aG) (h : hH) (b v n cap : Nat) (t : Nat → Nat) (hS : isSB h b v t n cap) (hcap : cap ≤ 4000) (a : Nat) (hba : gB G ≤ a) (hA : h.2 a = some (hob 29 [.null, .int 0, .int 0, .int 0])) : Con G kJ12_init [.ref a, .ref b] h ((5, 130, 1, n), (fun r h1 => r = none ∧ (∃ (u : Nat) (g : Nat → Value), h1.2 a = some (hob 29 [.ref u, .int 0, .int 0, .int 0]) ∧ h1.2 u = some (har 2 (n - 0) g) ∧ (∀ j, j < n → g j = .int (sb_b (t j))) ∧ h.1 ≤ u ∧ gB G ≤ u) ∧ Fr (fun q => q = a) h h1 ∧ h1.1 = h.1 + 1), nX) := by
  have hS0 := hS
  obtain ⟨f, hB, hV, hnc, hf, hft⟩ := hS
  refine Con.of (plainFor_of_name rfl) rfl (Nat.le_of_ble_eq_true rfl) ?_
  refine AW.eq (lv2 := [(0, .ref a), (1, .ref b)]) (s2 := []) rfl rfl rfl rfl rfl ?_
  refine aw_know (fun gd hi => ?_)
  have lt_b : b < h.1 := hi.2.1 _ _ hB
  have lt_a : a < h.1 := hi.2.1 _ _ hA
  have lt_v : v < h.1 := hi.2.1 _ _ hV
  refine aw_aload_n (n := 1) dJ12_init_0 rfl 0 rfl rfl ?_
  refine aw_aload_n (n := 2) dJ12_init_1 rfl 1 rfl rfl ?_
  refine aw_null (n := 3) dJ12_init_2 rfl ?_
  refine aw_callI (n := 6) (As := [.ref b, .null]) (rest := []) (K2 := kJ12_init_2) dJ12_init_3 q461 q462 q122 q463 rfl rfl hcJ12_init_2 (cs_sI1 G h b v n cap t hS0 hcap a hba hA) rfl (Nat.le_of_ble_eq_true rfl) ⟨Nat.le_of_ble_eq_true rfl, Nat.le_of_ble_eq_true rfl⟩ ⟨by first | omega | (dsimp only; omega) | decide, by first | omega | (dsimp only; omega) | decide⟩ (fun _ _ _ z => z.elim) rfl (fun r_3 h_3 q_3 => ?_)
  obtain ⟨rfl, hE_3, hF_3, zz_3⟩ := q_3
  have zc_3 : h.1 ≤ h_3.1 := hF_3.1
  refine AW.eq (s2 := []) (c2 := 1) (d2 := n) rfl rfl rfl rfl (Nat.zero_add _) ?_
  exact aw_vret dJ12_init_6 rfl ⟨rfl, hE_3, hF_3, zz_3⟩ ⟨(by first | exact Nat.le_refl _ | omega | (dsimp only; omega)), (by first | exact Nat.le_refl _ | omega | (dsimp only; omega))⟩

theorem bs_getD {t : Nat → Nat} {n j : Nat} (hj : j < n) : ((List.range n).map t).getD j 0 = t j := by simp [List.getD, hj]
abbrev kJ11_toString : aK := (yJ11_toString, cJ11_toString, 1, (Option.some (Jvm.ClassFile.FieldType.object "java/lang/String")), [])
theorem hcJ11_toString : kJ11_toString.1.cls ≠ "java/lang/invoke/MethodHandle" ∧ kJ11_toString.1.cls ≠ "java/lang/invoke/VarHandle" ∧ (parseMethodDescriptor kJ11_toString.1.desc).map (fun d => d.parameters.length) = some 0 := ⟨by decide, by decide, by decide +kernel⟩
theorem cs_toString (G : aG) (h : hH) (b v n cap : Nat) (t : Nat → Nat) (hS : isSB h b v t n cap) (hcap : cap ≤ 4000) (ht : ∀ j, j < n → t j < 256) (hn : n ≤ 2000) : Con G kJ11_toString [.ref b] h ((6, 151, 2, 4 + n), (fun r h1 => ∃ x u : Nat, r = some (.ref x) ∧ gB G ≤ x ∧ h.1 ≤ x ∧ gB G ≤ u ∧ h.1 ≤ u ∧ isSt h1 x u ((List.range n).map t) 0 0 ∧ Fr nS h h1 ∧ h1.1 = h.1 + 2), nX) := by
  obtain ⟨f, hB, hV, hnc, hf, hft⟩ := hS
  refine Con.of (plainFor_of_name rfl) rfl (Nat.le_of_ble_eq_true rfl) ?_
  refine AW.eq (lv2 := [(0, .ref b)]) (s2 := []) rfl rfl rfl rfl rfl ?_
  refine aw_know (fun gd hi => ?_)
  have lt_b : b < h.1 := hi.2.1 _ _ hB
  have lt_v : v < h.1 := hi.2.1 _ _ hV
  refine aw_newK (n := 3) (C0 := RJ12) (T := TJ12) (N := 4) (ci := 29) (fs := [.null, .int 0, .int 0, .int 0]) dJ11_toString_0 rfl in_J12 tyJ12 tyJ12_ok q456 4 q457 q122 rfl dfJ12 (by first | omega | (dsimp only; omega) | decide) (by first | omega | (dsimp only; omega) | decide) rfl (by first | rfl | omega) (by first | rfl | omega) (fun y_1 u_1 bu_1 w_1 => ?_)
  have eu_1 : u_1 = h.1 := w_1.2.2.1
  have zy_1 : y_1.1 = u_1 + 1 := w_1.2.2.2
  refine aw_dup (n := 4) dJ11_toString_3 rfl rfl ?_
  refine aw_aload_n (n := 5) dJ11_toString_4 rfl 0 rfl rfl ?_
  have f_2 : y_1.2 b = some (hob 28 [.ref v, .int 0, .int 0, .int (nI n)]) := (w_1.k (by omega) hB)
  have f_3 : y_1.2 v = some (har 2 cap f) := (w_1.k (by omega) hV)
  refine aw_callI (n := 8) (As := [.ref b]) (rest := [.ref u_1]) (K2 := kJ12_init) dJ11_toString_5 q458 q459 q122 q460 rfl rfl hcJ12_init (cs_sI2 G y_1 b v n cap t ⟨f, f_2, f_3, hnc, hf, hft⟩ hcap u_1 bu_1 w_1.1) rfl (Nat.le_of_ble_eq_true rfl) ⟨Nat.le_of_ble_eq_true rfl, Nat.le_of_ble_eq_true rfl⟩ ⟨by first | omega | (dsimp only; omega) | decide, by first | omega | (dsimp only; omega) | decide⟩ (fun _ _ _ z => z.elim) rfl (fun r_5 h_5 q_5 => ?_)
  obtain ⟨rfl, ⟨ux, gx, hA_5, hU_5, hg_5, lu_5, bu9_5⟩, hF_5, zz_5⟩ := q_5
  have zc_5 : y_1.1 ≤ h_5.1 := hF_5.1
  refine AW.eq (s2 := [.ref u_1]) (c2 := 2) (d2 := 4 + n) rfl rfl rfl rfl rfl ?_
  exact aw_aret dJ11_toString_8 rfl (Or.inl ⟨_, rfl⟩) (Or.inr ⟨_, rfl⟩) ⟨u_1, ux, rfl, bu_1, by omega, bu9_5, by omega, ⟨gx, hA_5, by rw [List.length_map, List.length_range]; exact hU_5, fun j hj => by rw [List.length_map, List.length_range] at hj; rw [hg_5 j hj, bs_getD hj], fun j hj => by rw [List.length_map, List.length_range] at hj; rw [bs_getD hj]; exact ht j hj, by rw [List.length_map, List.length_range]; exact hn⟩, (Fr.c (Fr.n Fr.rf w_1) hF_5 (fun a9 z9 => by have z9 : a9 = u_1 := z9; rw [z9]; exact (Or.inr (by omega)))), by omega⟩ ⟨(by first | exact Nat.le_refl _ | omega | (dsimp only; omega)), (by first | exact Nat.le_refl _ | omega | (dsimp only; omega))⟩

end
