/-! HashMap: resize. -/
section
set_option maxRecDepth 100000
abbrev kJ4_resize : aK := (yJ4_resize, cJ4_resize, 14, (Option.some (Jvm.ClassFile.FieldType.array (Jvm.ClassFile.FieldType.object "java/util/HashMap$Node"))), [])
theorem hcJ4_resize : kJ4_resize.1.cls ≠ "java/lang/invoke/MethodHandle" ∧ kJ4_resize.1.cls ≠ "java/lang/invoke/VarHandle" ∧ (parseMethodDescriptor kJ4_resize.1.desc).map (fun d => d.parameters.length) = some 0 := ⟨by decide, by decide, by decide +kernel⟩
theorem hm_rsN (G : aG) (h : hH) (m : Nat) (sF : Nat) (mc : Int32) (lv : Value) (hbm : gB G ≤ m) (hM : h.2 m = some (hobM .null sF mc 0 lv)) : Con G kJ4_resize [.ref m] h ((3, 100, 1, 64), (fun r h1 => ∃ t2, r = some (.ref t2) ∧ t2 = h.1 ∧ h1.2 m = some (hobM (.ref t2) sF mc 12 lv) ∧ h1.2 t2 = some (har 5 16 (fun _ => .null)) ∧ Fr (fun q => q = m) h h1 ∧ h1.1 = h.1 + 1 ∧ gB G ≤ t2), nX) := by
  refine Con.of (plainFor_of_name rfl) rfl (Nat.le_of_ble_eq_true rfl) ?_
  refine AW.eq (lv2 := [(0, .ref m)]) (s2 := []) rfl rfl rfl rfl rfl ?_
  refine aw_know (fun gd hi => ?_)
  have lt_m : m < h.1 := hi.2.1 _ _ hM
  refine aw_aload_n (n := 1) dJ4_resize_0 rfl 0 rfl rfl ?_
  refine aw_getf (n := 4) (v := .null) (C0 := RJ4) (T := TJ4) dJ4_resize_1 rfl 2 q223 (Or.inl rfl) hM rfl rfl ?_
  refine aw_astore_nN (n := 5) (lv' := [(1, .null), (0, .ref m)]) dJ4_resize_4 rfl (by decide) rfl rfl ?_
  refine aw_aload_nN (n := 6) dJ4_resize_5 rfl 0 rfl rfl ?_
  refine aw_ifnonnullN (n := 9) dJ4_resize_6 rfl ?_
  refine aw_iconst (n := 10) (v := 0) dJ4_resize_9 (by decide) rfl ?_
  refine aw_goto (tgt := 15) dJ4_resize_10 (by decide) ?_
  refine aw_istore_n (n := 16) (lv' := [(2, .int 0), (1, .null), (0, .ref m)]) dJ4_resize_15 rfl (by decide) rfl rfl ?_
  refine aw_aload_n (n := 17) dJ4_resize_16 rfl 2 rfl rfl ?_
  refine aw_getf (n := 20) (v := .int (nI 0)) (C0 := RJ4) (T := TJ4) dJ4_resize_17 rfl 6 q226 (Or.inl rfl) hM rfl rfl ?_
  refine aw_istore_n (n := 21) (lv' := [(3, .int (nI 0)), (2, .int 0), (1, .null), (0, .ref m)]) dJ4_resize_20 rfl (by decide) rfl rfl ?_
  refine aw_iconst (n := 22) (v := 0) dJ4_resize_21 (by decide) rfl ?_
  refine aw_istore (n := 24) (lv' := [(5, .int 0), (3, .int (nI 0)), (2, .int 0), (1, .null), (0, .ref m)]) dJ4_resize_22 (by decide) rfl rfl ?_
  refine aw_iload_n (n := 25) dJ4_resize_24 rfl 2 rfl rfl ?_
  refine aw_if_le (n := 28) (tgt := 67) dJ4_resize_25 (by decide) rfl (fun c_25 => ?_) (fun c_25 => ?_)
  · skip
    refine aw_iload_n (n := 68) dJ4_resize_67 rfl 1 rfl rfl ?_
    refine aw_if_le (n := 71) (tgt := 77) dJ4_resize_68 (by decide) rfl (fun c_68 => ?_) (fun c_68 => ?_)
    · skip
      refine aw_bipush (n := 79) (v := 16) dJ4_resize_77 (by decide) rfl ?_
      refine aw_istore (n := 81) (lv' := [(4, .int 16), (5, .int 0), (3, .int (nI 0)), (2, .int 0), (1, .null), (0, .ref m)]) dJ4_resize_79 (by decide) rfl rfl ?_
      refine aw_bipush (n := 83) (v := 12) dJ4_resize_81 (by decide) rfl ?_
      refine aw_istore (n := 85) (lv' := [(5, .int 12), (4, .int 16), (3, .int (nI 0)), (2, .int 0), (1, .null), (0, .ref m)]) dJ4_resize_83 (by decide) rfl rfl ?_
      refine aw_iload (n := 87) dJ4_resize_85 0 rfl rfl ?_
      refine aw_if_ne (n := 90) (tgt := 125) dJ4_resize_87 (by decide) rfl (fun c_87 => ?_) (fun c_87 => ?_)
      · skip
        refine aw_aload_n (n := 126) dJ4_resize_125 rfl 5 rfl rfl ?_
        refine aw_iload (n := 128) dJ4_resize_126 0 rfl rfl ?_
        refine aw_putK (n := 131) (fs' := [.null, .null, .null, .null, .int (nI sF), .int mc, .int 12, lv]) (C0 := RJ4) (T := TJ4) (N := 8) (ci := 25) dJ4_resize_128 rfl in_J4 tyJ4 tyJ4_ok nmJ4 q214 6 (by decide) q226 (Or.inl rfl) (by first | exact Or.inl rfl | exact Or.inr ⟨rfl, rfl, rfl⟩) rfl hM hbm rfl rfl (Nat.le_of_ble_eq_true rfl) rfl rfl (fun y_1 w_1 => ?_)
        have zy_1 : y_1.1 = h.1 := w_1.2.2
        refine aw_iload (n := 133) dJ4_resize_131 1 rfl rfl ?_
        refine AW.sts (st' := [.int (nI 16)]) (by rw [show ((16 : Int32) : Int32) = nI 16 from (by rfl)]) ?_
        refine aw_anewK (n := 136) (ti := 5) (N := 16) dJ4_resize_133 rfl q1526 q1527 rfl (by decide) (by decide) (by first | omega | (dsimp only; omega) | decide) (by first | omega | (dsimp only; omega) | decide) rfl (by first | rfl | omega) (by first | rfl | omega) (fun y_2 u_2 bu_2 w_2 => ?_)
        have eu_2 : u_2 = y_1.1 := w_2.2.2.1
        have zy_2 : y_2.1 = u_2 + 1 := w_2.2.2.2
        refine aw_astore (n := 138) (lv' := [(6, .ref u_2), (5, .int 12), (4, .int 16), (3, .int (nI 0)), (2, .int 0), (1, .null), (0, .ref m)]) dJ4_resize_136 (by decide) rfl rfl ?_
        refine aw_aload_n (n := 139) dJ4_resize_138 rfl 6 rfl rfl ?_
        refine aw_aload (n := 141) dJ4_resize_139 0 rfl rfl ?_
        have f_3 : y_2.2 m = some (hob 25 [.null, .null, .null, .null, .int (nI sF), .int mc, .int 12, lv]) := (w_2.k (by omega) w_1.1)
        refine aw_putK (n := 144) (fs' := [.null, .null, .ref u_2, .null, .int (nI sF), .int mc, .int 12, lv]) (C0 := RJ4) (T := TJ4) (N := 8) (ci := 25) dJ4_resize_141 rfl in_J4 tyJ4 tyJ4_ok nmJ4 q214 2 (by decide) q223 (Or.inl rfl) (by first | exact Or.inl rfl | exact Or.inr ⟨rfl, rfl, rfl⟩) rfl f_3 hbm rfl rfl (Nat.le_of_ble_eq_true rfl) rfl rfl (fun y_4 w_4 => ?_)
        have zy_4 : y_4.1 = y_2.1 := w_4.2.2
        refine aw_aload_nN (n := 145) dJ4_resize_144 rfl 5 rfl rfl ?_
        refine aw_ifnullN (tgt := 353) dJ4_resize_145 (by decide) ?_
        refine aw_aload (n := 355) dJ4_resize_353 0 rfl rfl ?_
        have f_5 : y_4.2 u_2 = some (har 5 16 (fun _ => .null)) := (w_4.k (by omega) w_2.1)
        exact aw_aret dJ4_resize_355 rfl (Or.inr ⟨_, rfl⟩) (Or.inr ⟨_, rfl⟩) ⟨u_2, rfl, eu_2.trans zy_1, w_4.1, f_5, (Fr.w (Fr.n (Fr.w Fr.rf w_1 (Or.inl rfl)) w_2) w_4 (Or.inl rfl)), by omega, bu_2⟩ ⟨(by first | exact Nat.le_refl _ | omega | (dsimp only; omega)), (by first | exact Nat.le_refl _ | omega | (dsimp only; omega))⟩
      · skip
        exact absurd c_87 (by decide +kernel)
    · skip
      exact absurd c_68 (by decide +kernel)
  · skip
    exact absurd c_25 (by decide +kernel)

theorem hm_rsT (G : aG) (h : hH) (E : hH) (m : Nat) (g : List Nat → Option Nat) (sF sz : Nat) (mc : Int32) (lv : Value) (t n : Nat) (f : Nat → Value) (Ms : Nat → Nat → Prop) (hbm : gB G ≤ m) (hM : h.2 m = some (hobM (.ref t) sF mc (3 * n / 4) lv)) (hT : isTB G E h g t n f Ms sz) (hn2 : n = 16 ∨ n = 32) : Con G kJ4_resize [.ref m] h ((3, 100, 1, 64), (fun r h1 => ∃ (t2 : Nat) (f2 : Nat → Value) (M2 : Nat → Nat → Prop), r = some (.ref t2) ∧ t2 = h.1 ∧ h1.2 m = some (hobM (.ref t2) sF mc (3 * (2 * n) / 4) lv) ∧ isTB G E h1 g t2 (2 * n) f2 M2 sz ∧ (∀ i q, i < 2 * n → M2 i q → ∃ k, k < n ∧ Ms k q) ∧ Fr (fun q => q = m ∨ q = t ∨ ∃ i, i < n ∧ Ms i q) h h1 ∧ h1.1 = h.1 + 1), nX) := by
  obtain ⟨hA, hbt, hn, hBs⟩ := hT
  have hn9 : n ≤ 32 := by rcases hn2 with e | e <;> omega
  have hn1 : 16 ≤ n := by rcases hn2 with e | e <;> omega
  have hn6 : n ≠ 64 := by omega
  have eS1 : nI n <<< ((1 : Int32) &&& 31) = nI (2 * n) := by rcases hn2 with e | e <;> subst e <;> decide
  have eS2 : nI (3 * n / 4) <<< ((1 : Int32) &&& 31) = nI (3 * (2 * n) / 4) := by rcases hn2 with e | e <;> subst e <;> decide
  refine Con.of (plainFor_of_name rfl) rfl (Nat.le_of_ble_eq_true rfl) ?_
  refine AW.eq (lv2 := [(0, .ref m)]) (s2 := []) rfl rfl rfl rfl rfl ?_
  refine aw_know (fun gd hi => ?_)
  have lt_m : m < h.1 := hi.2.1 _ _ hM
  have lt_t : t < h.1 := hi.2.1 _ _ hA
  have hMl : ∀ i q, i < n → Ms i q → q < h.1 ∧ q ≠ t ∧ q ≠ m := fun i q hi2 hq => by obtain ⟨_, w9, _, ⟨k9, v9, o9, g9⟩ | ⟨k9, v9, a1, a2, a3, a4, a5, a6, g9⟩⟩ := (hBs i hi2).node hq; exact ⟨hi.2.1 _ _ g9, ne_kind g9 hA ob_ar, ne_kind g9 hM (ob_ob (by decide))⟩; exact ⟨hi.2.1 _ _ g9, ne_kind g9 hA ob_ar, ne_kind g9 hM (ob_ob (by decide))⟩
  have hDj : ∀ i k q, i < n → k < n → Ms i q → Ms k q → i = k := fun i k q h1_ h2_ m1 m2 => Bin.dj hn h1_ h2_ (hBs i h1_) (hBs k h2_) m1 m2
  refine aw_aload_n (n := 1) dJ4_resize_0 rfl 0 rfl rfl ?_
  refine aw_getf (n := 4) (v := .ref t) (C0 := RJ4) (T := TJ4) dJ4_resize_1 rfl 2 q223 (Or.inl rfl) hM rfl rfl ?_
  refine aw_astore_n (n := 5) (lv' := [(1, .ref t), (0, .ref m)]) dJ4_resize_4 rfl (by decide) rfl rfl ?_
  refine aw_aload_n (n := 6) dJ4_resize_5 rfl 0 rfl rfl ?_
  refine aw_ifnonnull (tgt := 13) dJ4_resize_6 (by decide) ?_
  refine aw_aload_n (n := 14) dJ4_resize_13 rfl 0 rfl rfl ?_
  refine aw_alen (n := 15) (v := nI n) dJ4_resize_14 rfl hA rfl rfl ?_
  refine aw_istore_n (n := 16) (lv' := [(2, .int (nI n)), (1, .ref t), (0, .ref m)]) dJ4_resize_15 rfl (by decide) rfl rfl ?_
  refine aw_aload_n (n := 17) dJ4_resize_16 rfl 2 rfl rfl ?_
  refine aw_getf (n := 20) (v := .int (nI (3 * n / 4))) (C0 := RJ4) (T := TJ4) dJ4_resize_17 rfl 6 q226 (Or.inl rfl) hM rfl rfl ?_
  refine aw_istore_n (n := 21) (lv' := [(3, .int (nI (3 * n / 4))), (2, .int (nI n)), (1, .ref t), (0, .ref m)]) dJ4_resize_20 rfl (by decide) rfl rfl ?_
  refine aw_iconst (n := 22) (v := 0) dJ4_resize_21 (by decide) rfl ?_
  refine aw_istore (n := 24) (lv' := [(5, .int 0), (3, .int (nI (3 * n / 4))), (2, .int (nI n)), (1, .ref t), (0, .ref m)]) dJ4_resize_22 (by decide) rfl rfl ?_
  refine aw_iload_n (n := 25) dJ4_resize_24 rfl 2 rfl rfl ?_
  refine aw_if_le (n := 28) (tgt := 67) dJ4_resize_25 (by decide) rfl (fun c_25 => ?_) (fun c_25 => ?_)
  · skip
    have n_25 : n ≤ 0 := (nI_leI (a := n) (b := 0) (by omega) (by omega)).mp (by rw [← ((by rfl) : (0 : Int32) = nI 0)]; exact c_25)
    exfalso; omega
  · skip
    have n_25 : ¬ (n ≤ 0) := fun z => c_25 (by have y := (nI_leI (a := n) (b := 0) (by omega) (by omega)).mpr z; rw [← ((by rfl) : (0 : Int32) = nI 0)] at y; exact y)
    refine aw_iload_n (n := 29) dJ4_resize_28 rfl 2 rfl rfl ?_
    refine aw_ldcI (n := 31) (v := 1073741824) dJ4_resize_29 q1523 rfl ?_
    refine aw_icmp_lt (n := 34) (tgt := 42) dJ4_resize_31 (by decide) rfl (fun c_31 => ?_) (fun c_31 => ?_)
    · skip
      have n_31 : n < 1073741824 := (nI_ltI (a := n) (b := 1073741824) (by omega) (by omega)).mp (by rw [← ((by rfl) : (1073741824 : Int32) = nI 1073741824)]; exact c_31)
      refine aw_iload_n (n := 43) dJ4_resize_42 rfl 2 rfl rfl ?_
      refine aw_iconst (n := 44) (v := 1) dJ4_resize_43 (by decide) rfl ?_
      refine aw_ishl (n := 45) dJ4_resize_44 rfl ?_
      refine AW.sts (st' := [.int (nI (2 * n))]) (by rw [eS1]) ?_
      refine aw_dup (n := 46) dJ4_resize_45 rfl rfl ?_
      refine aw_istore (n := 48) (lv' := [(4, .int (nI (2 * n))), (5, .int 0), (3, .int (nI (3 * n / 4))), (2, .int (nI n)), (1, .ref t), (0, .ref m)]) dJ4_resize_46 (by decide) rfl rfl ?_
      refine aw_ldcI (n := 50) (v := 1073741824) dJ4_resize_48 q1523 rfl ?_
      refine aw_icmp_ge (n := 53) (tgt := 85) dJ4_resize_50 (by decide) rfl (fun c_50 => ?_) (fun c_50 => ?_)
      · skip
        have n_50 : 1073741824 ≤ (2 * n) := (nI_leI (a := 1073741824) (b := (2 * n)) (by omega) (by omega)).mp (by rw [← ((by rfl) : (1073741824 : Int32) = nI 1073741824)]; exact c_50)
        exfalso; omega
      · skip
        have n_50 : ¬ (1073741824 ≤ (2 * n)) := fun z => c_50 (by have y := (nI_leI (a := 1073741824) (b := (2 * n)) (by omega) (by omega)).mpr z; rw [← ((by rfl) : (1073741824 : Int32) = nI 1073741824)] at y; exact y)
        refine aw_iload_n (n := 54) dJ4_resize_53 rfl 3 rfl rfl ?_
        refine aw_bipush (n := 56) (v := 16) dJ4_resize_54 (by decide) rfl ?_
        refine aw_icmp_lt (n := 59) (tgt := 85) dJ4_resize_56 (by decide) rfl (fun c_56 => ?_) (fun c_56 => ?_)
        · skip
          have n_56 : n < 16 := (nI_ltI (a := n) (b := 16) (by omega) (by omega)).mp (by rw [← ((by rfl) : (16 : Int32) = nI 16)]; exact c_56)
          exfalso; omega
        · skip
          have n_56 : ¬ (n < 16) := fun z => c_56 (by have y := (nI_ltI (a := n) (b := 16) (by omega) (by omega)).mpr z; rw [← ((by rfl) : (16 : Int32) = nI 16)] at y; exact y)
          refine aw_iload_n (n := 60) dJ4_resize_59 rfl 2 rfl rfl ?_
          refine aw_iconst (n := 61) (v := 1) dJ4_resize_60 (by decide) rfl ?_
          refine aw_ishl (n := 62) dJ4_resize_61 rfl ?_
          refine AW.sts (st' := [.int (nI (3 * (2 * n) / 4))]) (by rw [eS2]) ?_
          refine aw_istore (n := 64) (lv' := [(5, .int (nI (3 * (2 * n) / 4))), (4, .int (nI (2 * n))), (3, .int (nI (3 * n / 4))), (2, .int (nI n)), (1, .ref t), (0, .ref m)]) dJ4_resize_62 (by decide) rfl rfl ?_
          refine aw_goto (tgt := 85) dJ4_resize_64 (by decide) ?_
          refine aw_iload (n := 87) dJ4_resize_85 0 rfl rfl ?_
          refine aw_if_ne (n := 90) (tgt := 125) dJ4_resize_87 (by decide) rfl (fun c_87 => ?_) (fun c_87 => ?_)
          · skip
            have n_87 : ¬ ((3 * (2 * n) / 4) = 0) := fun z => c_87 (by have y := (nI_eq (a := (3 * (2 * n) / 4)) (b := 0) (by omega) (by omega)).mpr z; rw [← ((by rfl) : (0 : Int32) = nI 0)] at y; exact y)
            refine aw_aload_n (n := 126) dJ4_resize_125 rfl 5 rfl rfl ?_
            refine aw_iload (n := 128) dJ4_resize_126 0 rfl rfl ?_
            refine aw_putK (n := 131) (fs' := [.null, .null, .ref t, .null, .int (nI sF), .int mc, .int (nI (3 * (2 * n) / 4)), lv]) (C0 := RJ4) (T := TJ4) (N := 8) (ci := 25) dJ4_resize_128 rfl in_J4 tyJ4 tyJ4_ok nmJ4 q214 6 (by decide) q226 (Or.inl rfl) (by first | exact Or.inl rfl | exact Or.inr ⟨rfl, rfl, rfl⟩) rfl hM hbm rfl rfl (Nat.le_of_ble_eq_true rfl) rfl rfl (fun y_1 w_1 => ?_)
            have zy_1 : y_1.1 = h.1 := w_1.2.2
            refine aw_iload (n := 133) dJ4_resize_131 1 rfl rfl ?_
            refine aw_anewK (n := 136) (ti := 5) (N := (2 * n)) dJ4_resize_133 rfl q1526 q1527 rfl (by omega) (by omega) (by first | omega | (dsimp only; omega) | decide) (by first | omega | (dsimp only; omega) | decide) rfl (by first | rfl | omega) (by first | rfl | omega) (fun y_2 u_2 bu_2 w_2 => ?_)
            have eu_2 : u_2 = y_1.1 := w_2.2.2.1
            have zy_2 : y_2.1 = u_2 + 1 := w_2.2.2.2
            refine aw_astore (n := 138) (lv' := [(6, .ref u_2), (5, .int (nI (3 * (2 * n) / 4))), (4, .int (nI (2 * n))), (3, .int (nI (3 * n / 4))), (2, .int (nI n)), (1, .ref t), (0, .ref m)]) dJ4_resize_136 (by decide) rfl rfl ?_
            refine aw_aload_n (n := 139) dJ4_resize_138 rfl 6 rfl rfl ?_
            refine aw_aload (n := 141) dJ4_resize_139 0 rfl rfl ?_
            have f_3 : y_2.2 m = some (hob 25 [.null, .null, .ref t, .null, .int (nI sF), .int mc, .int (nI (3 * (2 * n) / 4)), lv]) := (w_2.k (by omega) w_1.1)
            refine aw_putK (n := 144) (fs' := [.null, .null, .ref u_2, .null, .int (nI sF), .int mc, .int (nI (3 * (2 * n) / 4)), lv]) (C0 := RJ4) (T := TJ4) (N := 8) (ci := 25) dJ4_resize_141 rfl in_J4 tyJ4 tyJ4_ok nmJ4 q214 2 (by decide) q223 (Or.inl rfl) (by first | exact Or.inl rfl | exact Or.inr ⟨rfl, rfl, rfl⟩) rfl f_3 hbm rfl rfl (Nat.le_of_ble_eq_true rfl) rfl rfl (fun y_4 w_4 => ?_)
            have zy_4 : y_4.1 = y_2.1 := w_4.2.2
            refine aw_aload_n (n := 145) dJ4_resize_144 rfl 5 rfl rfl ?_
            refine aw_ifnull (n := 148) dJ4_resize_145 rfl ?_
            refine aw_iconst (n := 149) (v := 0) dJ4_resize_148 (by decide) rfl ?_
            refine aw_istore (n := 151) (lv' := [(7, .int 0), (6, .ref u_2), (5, .int (nI (3 * (2 * n) / 4))), (4, .int (nI (2 * n))), (3, .int (nI (3 * n / 4))), (2, .int (nI n)), (1, .ref t), (0, .ref m)]) dJ4_resize_149 (by decide) rfl rfl ?_
            have f_5 : y_4.2 u_2 = some (har 5 (2 * n) (fun _ => .null)) := (w_4.k (by omega) w_2.1)
            have f_6 : y_4.2 t = some (har 5 n f) := (w_4.k (ne_kind hA hM ar_ob) (w_2.k (by omega) (w_1.k (ne_kind hA hM ar_ob) hA)))
            have hFb : Fr (fun q => q = m) h y_4 := (Fr.w (Fr.n (Fr.w Fr.rf w_1 (Or.inl rfl)) w_2) w_4 (Or.inl rfl))
            have hI0 : rsI G E y_4 g n sz f Ms 0 (fun _ => .null) (fun _ _ => False) := ⟨fun i _ hi2 => ⟨(hBs i hi2).mv (fun q hq => hFb.2 q (hMl i q hi2 hq).1 (fun e9 => (hMl i q hi2 hq).2.2 e9)), rfl, rfl⟩, fun i hi2 => absurd hi2 (Nat.not_lt_zero _)⟩
            suffices L_151 : ∀ (m_ : Nat) (hh : hH) (j : Nat) (f1 f2 : Nat → Value) (M2 : Nat → Nat → Prop) (hjn : j ≤ n) (hA1 : hh.2 t = some (har 5 n f1)) (hE1 : ∀ i, j ≤ i → f1 i = f i) (hA2 : hh.2 u_2 = some (har 5 (2 * n) f2)) (hm1 : hh.2 m = some (hobM (.ref u_2) sF mc (3 * (2 * n) / 4) lv)) (hI : rsI G E hh g n sz f Ms j f2 M2) (hFc : Fr (fun q => q = m ∨ q = t ∨ ∃ i, i < n ∧ Ms i q) h hh) (hzc : hh.1 = h.1 + 1), n - j < m_ → AW G kJ4_resize ((3, 100, 1, 64), (fun r h1 => ∃ (t2 : Nat) (f2 : Nat → Value) (M2 : Nat → Nat → Prop), r = some (.ref t2) ∧ t2 = h.1 ∧ h1.2 m = some (hobM (.ref t2) sF mc (3 * (2 * n) / 4) lv) ∧ isTB G E h1 g t2 (2 * n) f2 M2 sz ∧ (∀ i q, i < 2 * n → M2 i q → ∃ k, k < n ∧ Ms k q) ∧ Fr (fun q => q = m ∨ q = t ∨ ∃ i, i < n ∧ Ms i q) h h1 ∧ h1.1 = h.1 + 1), nX) 151 [(7, .int (nI j)), (6, .ref u_2), (4, .int (nI (2 * n))), (2, .int (nI n)), (1, .ref t), (0, .ref m)] [] hh 1 (0 + (2 * n)) from
              AW.lvs (lv' := [(7, .int 0), (6, .ref u_2), (4, .int (nI (2 * n))), (2, .int (nI n)), (1, .ref t), (0, .ref m)]) (AW.eq (lv2 := _) (rfl) rfl rfl rfl rfl (L_151 _ y_4 0 f (fun _ => .null) (fun _ _ => False) (Nat.zero_le _) f_6 (fun _ _ => rfl) f_5 w_4.1 hI0 (Fr.w (Fr.n (Fr.w Fr.rf w_1 (Or.inl (Or.inl rfl))) w_2) w_4 (Or.inl (Or.inl rfl))) (by omega) (Nat.lt_succ_self _))) (by simp)
            intro m_
            induction m_ with
            | zero => intro hh j f1 f2 M2 hjn hA1 hE1 hA2 hm1 hI hFc hzc h_m; exact absurd h_m (Nat.not_lt_zero _)
            | succ m_ ih_151 =>
              intro hh j f1 f2 M2 hjn hA1 hE1 hA2 hm1 hI hFc hzc h_m
              have hn0 : n ≠ 0 := by omega
              refine aw_iload (n := 153) dJ4_resize_151 0 rfl rfl ?_
              refine aw_iload_n (n := 154) dJ4_resize_153 rfl 3 rfl rfl ?_
              refine aw_icmp_ge (n := 157) (tgt := 353) dJ4_resize_154 (by decide) rfl (fun c_154 => ?_) (fun c_154 => ?_)
              · skip
                have n_154 : n ≤ j := (nI_leI (a := n) (b := j) (by omega) (by omega)).mp (by exact c_154)
                refine aw_aload (n := 355) dJ4_resize_353 1 rfl rfl ?_
                have ej : j = n := by omega
                subst ej
                obtain ⟨hBF, hMF⟩ := hI.fin
                exact aw_aret dJ4_resize_355 rfl (Or.inr ⟨_, rfl⟩) (Or.inr ⟨_, rfl⟩) ⟨u_2, f2, M2, rfl, by omega, hm1, ⟨hA2, bu_2, (by rcases hn2 with e | e; exact Or.inr (Or.inl (by omega)); exact Or.inr (Or.inr (by omega))), hBF⟩, hMF, hFc, hzc⟩ ⟨(by first | exact Nat.le_refl _ | omega | (dsimp only; omega)), (by first | exact Nat.le_refl _ | omega | (dsimp only; omega))⟩
              · skip
                have n_154 : ¬ (n ≤ j) := fun z => c_154 (by have y := (nI_leI (a := n) (b := j) (by omega) (by omega)).mpr z; exact y)
                have hjl : j < n := Nat.lt_of_not_le n_154
                refine aw_aload_n (n := 158) dJ4_resize_157 rfl 4 rfl rfl ?_
                refine aw_iload (n := 160) dJ4_resize_158 0 rfl rfl ?_
                obtain ⟨κ, tx, hK, hBin⟩ := (hI.1 j (Nat.le_refl _) hjl).1
                rcases hBin with ⟨nx, L, hLl, o, hv0, hch, hnd, hML, hCP⟩ | ⟨hn6, _⟩
                rotate_left
                · exfalso; omega
                have hMo : ∀ q, Ms j q → q ≠ t ∧ q ≠ u_2 := fun q hq => ⟨(hMl j q hjl hq).2.1, fun e9 => by have := (hMl j q hjl hq).1; omega⟩
                cases L with
                | nil =>
                  have eo : o = none := hch
                  subst eo
                  have hv : f1 j = .null := (hE1 j (Nat.le_refl _)).trans hv0
                  refine aw_aald (n := 161) (v := .null) dJ4_resize_160 rfl rfl j rfl hA1 (by omega) (by omega) hv rfl ?_
                  refine aw_dup (n := 162) dJ4_resize_161 rfl rfl ?_
                  refine aw_astoreN (n := 164) (lv' := [(8, .null), (7, .int (nI j)), (6, .ref u_2), (4, .int (nI (2 * n))), (2, .int (nI n)), (1, .ref t), (0, .ref m)]) dJ4_resize_162 (by decide) rfl rfl ?_
                  refine aw_ifnullN (tgt := 347) dJ4_resize_164 (by decide) ?_
                  have hRB := resBin (sz := sz) (A := []) (B := []) (oA := none) (oB := none) hn2 hjl hK (fun q => (hML q).trans (by simp)) (fun q m9 => by cases m9) (fun q m9 => by cases m9) hCP rfl rfl (by simp) (by simp)
                  have hMF : ∀ q, Ms j q ↔ q ∈ ([] : List Nat) ∨ q ∈ ([] : List Nat) := fun q => (hML q).trans (by simp)
                  refine aw_iinc (n := 350) (v := nI (j + 1)) (lv' := [(7, .int (nI (j + 1))), (8, .null), (6, .ref u_2), (4, .int (nI (2 * n))), (2, .int (nI n)), (1, .ref t), (0, .ref m)]) dJ4_resize_347 1 rfl (by rw [show nI j = nI j from rfl]; exact nI_1 _) (by decide) rfl rfl ?_
                  refine aw_goto (tgt := 151) dJ4_resize_350 (by decide) ?_
                  have hFB : Fr (fun q => q = t ∨ q = u_2 ∨ Ms j q) hh hh := Fr.rf
                  have nu9 := (hI.1 j (Nat.le_refl _) hjl).2
                  have hfA : (f2) j = va_rf none := by simp [updV, va_rf, nu9.1, hn0, show j ≠ j + n by omega]
                  have hfB : (f2) (j + n) = va_rf none := by simp [updV, va_rf, nu9.2, hn0, show j + n ≠ j by omega]
                  have hI9 := rsI.go (h1 := hh) (f3 := f2) (PA := fun q => q ∈ ([] : List Nat)) (PB := fun q => q ∈ ([] : List Nat)) hI hjl (fun i q hi2 hne hq => hFB.2 q (by have := (hMl i q hi2 hq).1; omega) (fun z9 => z9.elim (fun e9 => (hMl i q hi2 hq).2.1 e9) (fun z8 => z8.elim (fun e9 => by have := (hMl i q hi2 hq).1; omega) (fun m9 => hne (hDj i j q hi2 hjl hq m9))))) (fun i e1_ e2_ => by simp [updV, e1_, e2_]) (by rw [hfA]; exact hRB.1) (by rw [hfB]; exact hRB.2) (fun q m9 => (hMF q).mpr (Or.inl m9)) (fun q m9 => (hMF q).mpr (Or.inr m9))
                  exact AW.lvs (lv' := [(7, .int (nI (j + 1))), (6, .ref u_2), (4, .int (nI (2 * n))), (2, .int (nI n)), (1, .ref t), (0, .ref m)]) (AW.eq (lv2 := _) (rfl) rfl rfl rfl rfl (ih_151 hh (j + 1) f1 f2 _ hjl hA1 (fun i hi2 => by have e9 := hE1 i (by omega); simp [updV, e9, show i ≠ j by omega]) hA2 hm1 hI9 hFc (by omega) (by omega))) (by simp)
                | cons hd L1 =>
                  obtain ⟨eo, hc1⟩ := hch
                  subst eo
                  have hv : f1 j = .ref hd := (hE1 j (Nat.le_refl _)).trans hv0
                  have hMhd : Ms j hd := (hML hd).mpr List.mem_cons_self
                  refine aw_aald (n := 161) (v := .ref hd) dJ4_resize_160 rfl rfl j rfl hA1 (by omega) (by omega) hv rfl ?_
                  refine aw_dup (n := 162) dJ4_resize_161 rfl rfl ?_
                  refine aw_astore (n := 164) (lv' := [(8, .ref hd), (7, .int (nI j)), (6, .ref u_2), (4, .int (nI (2 * n))), (2, .int (nI n)), (1, .ref t), (0, .ref m)]) dJ4_resize_162 (by decide) rfl rfl ?_
                  refine aw_ifnull (n := 167) dJ4_resize_164 rfl ?_
                  refine aw_aload_n (n := 168) dJ4_resize_167 rfl 5 rfl rfl ?_
                  refine aw_iload (n := 170) dJ4_resize_168 1 rfl rfl ?_
                  refine aw_null (n := 171) dJ4_resize_170 rfl ?_
                  refine aw_aastNK (n := 172) (ti := 5) (N := n) (f' := updV f1 j (.null)) dJ4_resize_171 rfl j rfl hA1 hbt (by omega) (by omega) rfl rfl (fun y_7 w_7 => ?_)
                  have zy_7 : y_7.1 = hh.1 := w_7.2.2
                  have hC1 := hCP.w w_7 (fun x hx => (hMo x hx).1)
                  refine aw_aload (n := 174) dJ4_resize_172 0 rfl rfl ?_
                  rcases optc (nx hd) with hq_8 | ⟨e174_8, hq_8⟩
                  · skip
                    have eL : L1 = [] := by cases h9 : L1 with | nil => rfl | cons a9 L9 => rw [h9, hq_8] at hc1; cases hc1.1
                    refine aw_getf (n := 177) (v := .null) (C0 := RJ25) (T := TJ25) dJ4_resize_174 rfl 3 q1560 (Or.inl rfl) (hC1 hd hMhd).1 (congrArg (fun z9 => some (va_rf z9)) (show nx hd = none from by exact hq_8)) rfl ?_
                    refine aw_ifnonnullN (n := 180) dJ4_resize_177 rfl ?_
                    refine aw_aload (n := 182) dJ4_resize_180 2 rfl rfl ?_
                    refine aw_aload (n := 184) dJ4_resize_182 0 rfl rfl ?_
                    refine aw_getf (n := 187) (v := .int ((κ hd).1)) (C0 := RJ25) (T := TJ25) dJ4_resize_184 rfl 0 q1549 (Or.inl rfl) (hC1 hd hMhd).1 rfl rfl ?_
                    refine aw_iload (n := 189) dJ4_resize_187 3 rfl rfl ?_
                    refine aw_iconst (n := 190) (v := 1) dJ4_resize_189 (by decide) rfl ?_
                    refine aw_isub (n := 191) dJ4_resize_190 rfl ?_
                    refine aw_iand (n := 192) dJ4_resize_191 rfl ?_
                    rcases sp_n hn2 (κ hd).1 hjl (hK.2.1 hd hMhd) with ⟨e1, e2⟩ | ⟨e1, e2⟩
                    · skip
                      refine AW.sts (st' := [.int (nI j), .ref u_2]) (by rw [Int32.and_comm, e2]) ?_
                      refine aw_aload (n := 194) dJ4_resize_192 0 rfl rfl ?_
                      have f_9 : y_7.2 u_2 = some (har 5 (2 * n) f2) := (w_7.k (Ne.symm (by omega)) hA2)
                      refine aw_aastK (n := 195) (ti := 5) (N := (2 * n)) (f' := updV f2 j (.ref hd)) dJ4_resize_194 rfl j rfl f_9 bu_2 (by omega) (by omega) rfl (hC1 hd hMhd).1 (Or.inl rfl) rfl rfl (fun y_10 w_10 => ?_)
                      have zy_10 : y_10.1 = y_7.1 := w_10.2.2
                      refine aw_goto (tgt := 347) dJ4_resize_195 (by decide) ?_
                      have hMF : ∀ q, Ms j q ↔ q ∈ ([hd] : List Nat) ∨ q ∈ ([] : List Nat) := fun q => (hML q).trans (by rw [eL]; simp)
                      have hC9 := hC1.w w_10 (fun x hx => (hMo x hx).2)
                      have hRB := resBin (sz := sz) (A := [hd]) (B := []) (oA := (some hd)) (oB := none) hn2 hjl hK hMF (fun q m9 => by have e9 := List.mem_singleton.mp m9; rw [e9]; exact e1) (fun q m9 => by cases m9) hC9 ⟨rfl, hq_8⟩ rfl (by simp) (by have g9 := hLl; rw [eL] at g9; exact g9)
                      refine aw_iinc (n := 350) (v := nI (j + 1)) (lv' := [(7, .int (nI (j + 1))), (8, .ref hd), (6, .ref u_2), (4, .int (nI (2 * n))), (2, .int (nI n)), (1, .ref t), (0, .ref m)]) dJ4_resize_347 1 rfl (by rw [show nI j = nI j from rfl]; exact nI_1 _) (by decide) rfl rfl ?_
                      refine aw_goto (tgt := 151) dJ4_resize_350 (by decide) ?_
                      have f_11 : y_10.2 t = some (har 5 n (updV f1 j (.null))) := (w_10.k (by omega) w_7.1)
                      have f_12 : y_10.2 m = some (hob 25 [.null, .null, .ref u_2, .null, .int (nI sF), .int mc, .int (nI (3 * (2 * n) / 4)), lv]) := (w_10.k (ne_kind hm1 hA2 ob_ar) (w_7.k (ne_kind hm1 hA1 ob_ar) hm1))
                      have hFB : Fr (fun q => q = t ∨ q = u_2 ∨ Ms j q) hh y_10 := (Fr.w (Fr.w Fr.rf w_7 (Or.inl (Or.inl rfl))) w_10 (Or.inl (Or.inr (Or.inl rfl))))
                      have nu9 := (hI.1 j (Nat.le_refl _) hjl).2
                      have hfA : (updV f2 j (.ref hd)) j = va_rf (some hd) := by simp [updV, va_rf, nu9.1, hn0, show j ≠ j + n by omega]
                      have hfB : (updV f2 j (.ref hd)) (j + n) = va_rf none := by simp [updV, va_rf, nu9.2, hn0, show j + n ≠ j by omega]
                      have hI9 := rsI.go (h1 := y_10) (f3 := updV f2 j (.ref hd)) (PA := fun q => q ∈ ([hd] : List Nat)) (PB := fun q => q ∈ ([] : List Nat)) hI hjl (fun i q hi2 hne hq => hFB.2 q (by have := (hMl i q hi2 hq).1; omega) (fun z9 => z9.elim (fun e9 => (hMl i q hi2 hq).2.1 e9) (fun z8 => z8.elim (fun e9 => by have := (hMl i q hi2 hq).1; omega) (fun m9 => hne (hDj i j q hi2 hjl hq m9))))) (fun i e1_ e2_ => by simp [updV, e1_, e2_]) (by rw [hfA]; exact hRB.1) (by rw [hfB]; exact hRB.2) (fun q m9 => (hMF q).mpr (Or.inl m9)) (fun q m9 => (hMF q).mpr (Or.inr m9))
                      exact AW.lvs (lv' := [(7, .int (nI (j + 1))), (6, .ref u_2), (4, .int (nI (2 * n))), (2, .int (nI n)), (1, .ref t), (0, .ref m)]) (AW.eq (lv2 := _) (rfl) rfl rfl rfl rfl (ih_151 y_10 (j + 1) (updV f1 j (.null)) (updV f2 j (.ref hd)) _ hjl f_11 (fun i hi2 => by have e9 := hE1 i (by omega); simp [updV, e9, show i ≠ j by omega]) w_10.1 f_12 hI9 (Fr.w (Fr.w hFc w_7 (Or.inl (Or.inr (Or.inl rfl)))) w_10 (Or.inr (by omega))) (by omega) (by omega))) (by simp)
                    · skip
                      refine AW.sts (st' := [.int (nI (j + n)), .ref u_2]) (by rw [Int32.and_comm, e2]) ?_
                      refine aw_aload (n := 194) dJ4_resize_192 0 rfl rfl ?_
                      have f_13 : y_7.2 u_2 = some (har 5 (2 * n) f2) := (w_7.k (Ne.symm (by omega)) hA2)
                      refine aw_aastK (n := 195) (ti := 5) (N := (2 * n)) (f' := updV f2 (j + n) (.ref hd)) dJ4_resize_194 rfl (j + n) rfl f_13 bu_2 (by omega) (by omega) rfl (hC1 hd hMhd).1 (Or.inl rfl) rfl rfl (fun y_14 w_14 => ?_)
                      have zy_14 : y_14.1 = y_7.1 := w_14.2.2
                      refine aw_goto (tgt := 347) dJ4_resize_195 (by decide) ?_
                      have hMF : ∀ q, Ms j q ↔ q ∈ ([] : List Nat) ∨ q ∈ ([hd] : List Nat) := fun q => (hML q).trans (by rw [eL]; simp)
                      have hC9 := hC1.w w_14 (fun x hx => (hMo x hx).2)
                      have hRB := resBin (sz := sz) (A := []) (B := [hd]) (oA := none) (oB := (some hd)) hn2 hjl hK hMF (fun q m9 => by cases m9) (fun q m9 => by have e9 := List.mem_singleton.mp m9; rw [e9]; exact e1) hC9 rfl ⟨rfl, hq_8⟩ (by simp) (by have g9 := hLl; rw [eL] at g9; exact g9)
                      refine aw_iinc (n := 350) (v := nI (j + 1)) (lv' := [(7, .int (nI (j + 1))), (8, .ref hd), (6, .ref u_2), (4, .int (nI (2 * n))), (2, .int (nI n)), (1, .ref t), (0, .ref m)]) dJ4_resize_347 1 rfl (by rw [show nI j = nI j from rfl]; exact nI_1 _) (by decide) rfl rfl ?_
                      refine aw_goto (tgt := 151) dJ4_resize_350 (by decide) ?_
                      have f_15 : y_14.2 t = some (har 5 n (updV f1 j (.null))) := (w_14.k (by omega) w_7.1)
                      have f_16 : y_14.2 m = some (hob 25 [.null, .null, .ref u_2, .null, .int (nI sF), .int mc, .int (nI (3 * (2 * n) / 4)), lv]) := (w_14.k (ne_kind hm1 hA2 ob_ar) (w_7.k (ne_kind hm1 hA1 ob_ar) hm1))
                      have hFB : Fr (fun q => q = t ∨ q = u_2 ∨ Ms j q) hh y_14 := (Fr.w (Fr.w Fr.rf w_7 (Or.inl (Or.inl rfl))) w_14 (Or.inl (Or.inr (Or.inl rfl))))
                      have nu9 := (hI.1 j (Nat.le_refl _) hjl).2
                      have hfA : (updV f2 (j + n) (.ref hd)) j = va_rf none := by simp [updV, va_rf, nu9.1, hn0, show j ≠ j + n by omega]
                      have hfB : (updV f2 (j + n) (.ref hd)) (j + n) = va_rf (some hd) := by simp [updV, va_rf, nu9.2, hn0, show j + n ≠ j by omega]
                      have hI9 := rsI.go (h1 := y_14) (f3 := updV f2 (j + n) (.ref hd)) (PA := fun q => q ∈ ([] : List Nat)) (PB := fun q => q ∈ ([hd] : List Nat)) hI hjl (fun i q hi2 hne hq => hFB.2 q (by have := (hMl i q hi2 hq).1; omega) (fun z9 => z9.elim (fun e9 => (hMl i q hi2 hq).2.1 e9) (fun z8 => z8.elim (fun e9 => by have := (hMl i q hi2 hq).1; omega) (fun m9 => hne (hDj i j q hi2 hjl hq m9))))) (fun i e1_ e2_ => by simp [updV, e1_, e2_]) (by rw [hfA]; exact hRB.1) (by rw [hfB]; exact hRB.2) (fun q m9 => (hMF q).mpr (Or.inl m9)) (fun q m9 => (hMF q).mpr (Or.inr m9))
                      exact AW.lvs (lv' := [(7, .int (nI (j + 1))), (6, .ref u_2), (4, .int (nI (2 * n))), (2, .int (nI n)), (1, .ref t), (0, .ref m)]) (AW.eq (lv2 := _) (rfl) rfl rfl rfl rfl (ih_151 y_14 (j + 1) (updV f1 j (.null)) (updV f2 (j + n) (.ref hd)) _ hjl f_15 (fun i hi2 => by have e9 := hE1 i (by omega); simp [updV, e9, show i ≠ j by omega]) w_14.1 f_16 hI9 (Fr.w (Fr.w hFc w_7 (Or.inl (Or.inr (Or.inl rfl)))) w_14 (Or.inr (by omega))) (by omega) (by omega))) (by simp)
                  · skip
                    obtain ⟨L2, eL⟩ : ∃ L2, L1 = e174_8 :: L2 := by cases L1 with | nil => rw [hq_8] at hc1; cases hc1 | cons a9 L9 => exact ⟨L9, by have g9 := hc1.1; rw [hq_8] at g9; cases g9; rfl⟩
                    refine aw_getf (n := 177) (v := .ref e174_8) (C0 := RJ25) (T := TJ25) dJ4_resize_174 rfl 3 q1560 (Or.inl rfl) (hC1 hd hMhd).1 (congrArg (fun z9 => some (va_rf z9)) (show nx hd = some e174_8 from by exact hq_8)) rfl ?_
                    refine aw_ifnonnull (tgt := 198) dJ4_resize_177 (by decide) ?_
                    refine aw_aload (n := 200) dJ4_resize_198 0 rfl rfl ?_
                    refine aw_instNo (n := 203) dJ4_resize_200 q1211 rfl (hC1 hd hMhd).1 (List.Mem.tail _ (List.Mem.tail _ (List.Mem.head _))) rfl ?_
                    refine aw_if_eq (n := 206) (tgt := 223) dJ4_resize_203 (by decide) rfl (fun c_203 => ?_) (fun c_203 => ?_)
                    · skip
                      refine aw_null (n := 224) dJ4_resize_223 rfl ?_
                      refine aw_astoreN (n := 226) (lv' := [(9, .null), (8, .ref hd), (7, .int (nI j)), (6, .ref u_2), (4, .int (nI (2 * n))), (2, .int (nI n)), (1, .ref t), (0, .ref m)]) dJ4_resize_224 (by decide) rfl rfl ?_
                      refine aw_null (n := 227) dJ4_resize_226 rfl ?_
                      refine aw_astoreN (n := 229) (lv' := [(10, .null), (9, .null), (8, .ref hd), (7, .int (nI j)), (6, .ref u_2), (4, .int (nI (2 * n))), (2, .int (nI n)), (1, .ref t), (0, .ref m)]) dJ4_resize_227 (by decide) rfl rfl ?_
                      refine aw_null (n := 230) dJ4_resize_229 rfl ?_
                      refine aw_astoreN (n := 232) (lv' := [(11, .null), (10, .null), (9, .null), (8, .ref hd), (7, .int (nI j)), (6, .ref u_2), (4, .int (nI (2 * n))), (2, .int (nI n)), (1, .ref t), (0, .ref m)]) dJ4_resize_230 (by decide) rfl rfl ?_
                      refine aw_null (n := 233) dJ4_resize_232 rfl ?_
                      refine aw_astoreN (n := 235) (lv' := [(12, .null), (11, .null), (10, .null), (9, .null), (8, .ref hd), (7, .int (nI j)), (6, .ref u_2), (4, .int (nI (2 * n))), (2, .int (nI n)), (1, .ref t), (0, .ref m)]) dJ4_resize_233 (by decide) rfl rfl ?_
                      suffices L_235 : ∀ (m_ : Nat) (h2 : hH) (nx1 : oF) (A B R : List Nat) (e : Nat) (ha la hb_ lb : Option Nat) (hC2 : CPic G h2 (Ms j) κ nx1) (hR2 : chn nx1 (nx1 e) R) (hoA : och nx1 ha la A) (hoB : och nx1 hb_ lb B) (hM2_ : ∀ q, Ms j q ↔ q ∈ A ∨ q ∈ B ∨ q ∈ e :: R) (hnd2 : (A ++ (B ++ e :: R)).Nodup) (hlA : ∀ q, q ∈ A → (κ q).1 &&& nI n = 0) (hlB : ∀ q, q ∈ B → (κ q).1 &&& nI n ≠ 0) (hln : A.length + (B.length + (R.length + 1)) ≤ sz) (hF2 : Fr (Ms j) y_7 h2) (hz2 : h2.1 = y_7.1), R.length < m_ → AW G kJ4_resize ((3, 100, 1, 64), (fun r h1 => ∃ (t2 : Nat) (f2 : Nat → Value) (M2 : Nat → Nat → Prop), r = some (.ref t2) ∧ t2 = h.1 ∧ h1.2 m = some (hobM (.ref t2) sF mc (3 * (2 * n) / 4) lv) ∧ isTB G E h1 g t2 (2 * n) f2 M2 sz ∧ (∀ i q, i < 2 * n → M2 i q → ∃ k, k < n ∧ Ms k q) ∧ Fr (fun q => q = m ∨ q = t ∨ ∃ i, i < n ∧ Ms i q) h h1 ∧ h1.1 = h.1 + 1), nX) 235 [(12, va_rf lb), (11, va_rf hb_), (10, va_rf la), (9, va_rf ha), (8, .ref e), (7, .int (nI j)), (6, .ref u_2), (4, .int (nI (2 * n))), (2, .int (nI n)), (1, .ref t), (0, .ref m)] [] h2 1 (0 + (2 * n)) from
                        AW.lvs (lv' := [(12, .null), (11, .null), (10, .null), (9, .null), (8, .ref hd), (7, .int (nI j)), (6, .ref u_2), (4, .int (nI (2 * n))), (2, .int (nI n)), (1, .ref t), (0, .ref m)]) (AW.eq (lv2 := _) (rfl) rfl rfl rfl rfl (L_235 _ y_7 nx [] [] L1 hd none none none none hC1 hc1 och.nil och.nil (fun q => (hML q).trans (by simp)) (by exact hnd) (fun q m9 => by cases m9) (fun q m9 => by cases m9) (by have g9 := hLl; simp at g9 ⊢; omega) Fr.rf rfl (Nat.lt_succ_self _))) (by simp)
                      intro m_
                      induction m_ with
                      | zero => intro h2 nx1 A B R e ha la hb_ lb hC2 hR2 hoA hoB hM2_ hnd2 hlA hlB hln hF2 hz2 h_m; exact absurd h_m (Nat.not_lt_zero _)
                      | succ m_ ih_235 =>
                        intro h2 nx1 A B R e ha la hb_ lb hC2 hR2 hoA hoB hM2_ hnd2 hlA hlB hln hF2 hz2 h_m
                        have zc2 : y_7.1 ≤ h2.1 := hF2.1
                        obtain ⟨hnA, hnBe, hdA⟩ := List.nodup_append.mp hnd2
                        obtain ⟨hnB, hneR, hdB⟩ := List.nodup_append.mp hnBe
                        have heR := List.nodup_cons.mp hneR
                        have nAB : ∀ q, q ∈ A → q ∉ B := fun q m m2 => hdA q m q (List.mem_append_left _ m2) rfl
                        have nAe : ∀ q, q ∈ A → q ≠ e := fun q m => hdA q m e (List.mem_append_right _ List.mem_cons_self)
                        have nAR : ∀ q, q ∈ A → q ∉ R := fun q m m2 => hdA q m q (List.mem_append_right _ (List.mem_cons_of_mem _ m2)) rfl
                        have nBe : ∀ q, q ∈ B → q ≠ e := fun q m => hdB q m e List.mem_cons_self
                        have nBR : ∀ q, q ∈ B → q ∉ R := fun q m m2 => hdB q m q (List.mem_cons_of_mem _ m2) rfl
                        have hndL := nd_lo hnd2
                        have hndH := nd_hi hnd2
                        have hMe : Ms j e := (hM2_ e).mpr (Or.inr (Or.inr List.mem_cons_self))
                        rcases hoA.cs with ⟨rfl, rfl, rfl⟩ | ⟨a1, t1, rfl, rfl, hmA, hmA0⟩
                        · rcases hoB.cs with ⟨rfl, rfl, rfl⟩ | ⟨a3, t3, rfl, rfl, hmB, hmB0⟩
                          · skip
                            refine AW.eq (lv2 := [(12, .null), (11, .null), (10, .null), (9, .null), (8, .ref e), (7, .int (nI j)), (6, .ref u_2), (4, .int (nI (2 * n))), (2, .int (nI n)), (1, .ref t), (0, .ref m)]) (s2 := []) rfl rfl rfl rfl rfl ?_
                            refine aw_aload (n := 237) dJ4_resize_235 4 rfl rfl ?_
                            rcases optc (nx1 e) with hq_17 | ⟨e237_17, hq_17⟩
                            · skip
                              have eR : R = [] := by cases h9 : R with | nil => rfl | cons a9 L9 => rw [h9, hq_17] at hR2; cases hR2.1
                              refine aw_getf (n := 240) (v := .null) (C0 := RJ25) (T := TJ25) dJ4_resize_237 rfl 3 q1560 (Or.inl rfl) (hC2 e hMe).1 (congrArg (fun z9 => some (va_rf z9)) (show nx1 e = none from by exact hq_17)) rfl ?_
                              refine aw_astoreN (n := 242) (lv' := [(13, .null), (12, .null), (11, .null), (10, .null), (9, .null), (8, .ref e), (7, .int (nI j)), (6, .ref u_2), (4, .int (nI (2 * n))), (2, .int (nI n)), (1, .ref t), (0, .ref m)]) dJ4_resize_240 (by decide) rfl rfl ?_
                              refine aw_aload (n := 244) dJ4_resize_242 5 rfl rfl ?_
                              refine aw_getf (n := 247) (v := .int ((κ e).1)) (C0 := RJ25) (T := TJ25) dJ4_resize_244 rfl 0 q1549 (Or.inl rfl) (hC2 e hMe).1 rfl rfl ?_
                              refine aw_iload_n (n := 248) dJ4_resize_247 rfl 9 rfl rfl ?_
                              refine aw_iand (n := 249) dJ4_resize_248 rfl ?_
                              refine aw_if_ne (n := 252) (tgt := 278) dJ4_resize_249 (by decide) rfl (fun c_249 => ?_) (fun c_249 => ?_)
                              · skip
                                refine aw_aloadN (n := 280) dJ4_resize_278 1 rfl rfl ?_
                                refine aw_ifnonnullN (n := 283) dJ4_resize_280 rfl ?_
                                refine aw_aload (n := 285) dJ4_resize_283 5 rfl rfl ?_
                                refine aw_astore (n := 287) (lv' := [(11, .ref e), (13, .null), (12, .null), (10, .null), (9, .null), (8, .ref e), (7, .int (nI j)), (6, .ref u_2), (4, .int (nI (2 * n))), (2, .int (nI n)), (1, .ref t), (0, .ref m)]) dJ4_resize_285 (by decide) rfl rfl ?_
                                refine aw_goto (tgt := 297) dJ4_resize_287 (by decide) ?_
                                refine aw_aload (n := 299) dJ4_resize_297 5 rfl rfl ?_
                                refine aw_astore (n := 301) (lv' := [(12, .ref e), (11, .ref e), (13, .null), (10, .null), (9, .null), (8, .ref e), (7, .int (nI j)), (6, .ref u_2), (4, .int (nI (2 * n))), (2, .int (nI n)), (1, .ref t), (0, .ref m)]) dJ4_resize_299 (by decide) rfl rfl ?_
                                refine aw_aloadN (n := 303) dJ4_resize_301 2 rfl rfl ?_
                                refine aw_dup (n := 304) dJ4_resize_303 rfl rfl ?_
                                refine aw_astoreN (n := 306) (lv' := [(8, .null), (12, .ref e), (11, .ref e), (13, .null), (10, .null), (9, .null), (7, .int (nI j)), (6, .ref u_2), (4, .int (nI (2 * n))), (2, .int (nI n)), (1, .ref t), (0, .ref m)]) dJ4_resize_304 (by decide) rfl rfl ?_
                                refine aw_ifnonnullN (n := 309) dJ4_resize_306 rfl ?_
                                have hndF : ([] ++ [e]).Nodup := by have g9 := hndH; rw [eR] at g9; simpa using g9
                                obtain ⟨hnA2, hnB2, hdA2⟩ := List.nodup_append.mp hndF
                                have hMF : ∀ q, Ms j q ↔ q ∈ [] ∨ q ∈ [e] := fun q => (hM2_ q).trans (by rw [eR]; simp only [List.mem_append, List.mem_cons, List.not_mem_nil] <;> grind)
                                refine aw_aloadN (n := 311) dJ4_resize_309 4 rfl rfl ?_
                                refine aw_ifnullN (tgt := 327) dJ4_resize_311 (by decide) ?_
                                refine aw_aload (n := 329) dJ4_resize_327 1 rfl rfl ?_
                                refine aw_ifnull (n := 332) dJ4_resize_329 rfl ?_
                                refine aw_aload (n := 334) dJ4_resize_332 1 rfl rfl ?_
                                refine aw_null (n := 335) dJ4_resize_334 rfl ?_
                                refine aw_putK (n := 338) (fs' := [.int (κ e).1, .ref (κ e).2.1, .ref (κ e).2.2, va_rf none]) (C0 := RJ25) (T := TJ25) (N := 4) (ci := 26) dJ4_resize_335 rfl in_J25 tyJ25 tyJ25_ok nmJ25 q1541 3 (by decide) q1560 (Or.inl rfl) (Or.inl rfl) rfl (hC2 e hMe).1 (hC2 e hMe).2 rfl rfl (Nat.le_of_ble_eq_true rfl) rfl rfl (fun y_18 w_18 => ?_)
                                have zy_18 : y_18.1 = h2.1 := w_18.2.2
                                have hC_18 := CPic.pnx (v := none) hC2 w_18
                                refine aw_aload (n := 340) dJ4_resize_338 7 rfl rfl ?_
                                refine aw_iload (n := 342) dJ4_resize_340 6 rfl rfl ?_
                                refine aw_iload_n (n := 343) dJ4_resize_342 rfl 9 rfl rfl ?_
                                refine aw_iadd (n := 344) dJ4_resize_343 rfl ?_
                                refine aw_aload (n := 346) dJ4_resize_344 2 rfl rfl ?_
                                have f_19 : y_18.2 u_2 = some (har 5 (2 * n) f2) := (w_18.k (Ne.symm (hMo e hMe).2) (hF2.k (by omega) (fun z9 => (hMo _ z9).2 rfl) (w_7.k (Ne.symm (by omega)) hA2)))
                                refine aw_aastK (n := 347) (ti := 5) (N := (2 * n)) (f' := updV f2 (j + n) (.ref e)) dJ4_resize_346 rfl (j + n) (by rw [show (nI j : Int32) = nI j from rfl, show (nI n : Int32) = nI n from rfl]; exact nI_add _ _) f_19 bu_2 (by omega) (by omega) rfl (hC_18 e hMe).1 (Or.inl rfl) rfl rfl (fun y_20 w_20 => ?_)
                                have zy_20 : y_20.1 = y_18.1 := w_20.2.2
                                have hC_w_20 := hC_18.w w_20 (fun x hx => (hMo x hx).2)
                                have hcA9 : chn (up nx1 e none) none [] := (rfl : chn _ none [])
                                have hcB9 : chn (up nx1 e none) (some e) [e] := (och.one.close hnB2)
                                have hRB := resBin (sz := sz) (oA := none) (oB := (some e)) hn2 hjl hK hMF hlA (fun q m9 => by have e9 := List.mem_singleton.mp m9; rw [e9]; exact c_249) hC_w_20 hcA9 hcB9 hndF (by have g9 := hln; rw [eR] at g9; simp only [List.length_nil, List.length_cons, List.length_append] at g9 ⊢; omega)
                                refine aw_iinc (n := 350) (v := nI (j + 1)) (lv' := [(7, .int (nI (j + 1))), (8, .null), (12, .ref e), (11, .ref e), (13, .null), (10, .null), (9, .null), (6, .ref u_2), (4, .int (nI (2 * n))), (2, .int (nI n)), (1, .ref t), (0, .ref m)]) dJ4_resize_347 6 rfl (by rw [show nI j = nI j from rfl]; exact nI_1 _) (by decide) rfl rfl ?_
                                refine aw_goto (tgt := 151) dJ4_resize_350 (by decide) ?_
                                have f_21 : y_20.2 t = some (har 5 n (updV f1 j (.null))) := (w_20.k (by omega) (w_18.k (Ne.symm (hMo e hMe).1) (hF2.k (by omega) (fun z9 => (hMo _ z9).1 rfl) w_7.1)))
                                have f_22 : y_20.2 m = some (hob 25 [.null, .null, .ref u_2, .null, .int (nI sF), .int mc, .int (nI (3 * (2 * n) / 4)), lv]) := (w_20.k (ne_kind hm1 hA2 ob_ar) (w_18.k (fun e9 => (hMl j e hjl hMe).2.2 e9.symm) (hF2.k (by omega) (fun z9 => (hMl j m hjl z9).2.2 rfl) (w_7.k (ne_kind hm1 hA1 ob_ar) hm1))))
                                have hFB : Fr (fun q => q = t ∨ q = u_2 ∨ Ms j q) hh y_20 := (Fr.w (Fr.w (Fr.c (Fr.w Fr.rf w_7 (Or.inl (Or.inl rfl))) hF2 (fun a9 z9 => Or.inl (Or.inr (Or.inr z9)))) w_18 (Or.inl (Or.inr (Or.inr hMe)))) w_20 (Or.inl (Or.inr (Or.inl rfl))))
                                have nu9 := (hI.1 j (Nat.le_refl _) hjl).2
                                have hfA : (updV f2 (j + n) (.ref e)) j = va_rf none := by simp [updV, va_rf, nu9.1, hn0, show j ≠ j + n by omega]
                                have hfB : (updV f2 (j + n) (.ref e)) (j + n) = va_rf (some e) := by simp [updV, va_rf, nu9.2, hn0, show j + n ≠ j by omega]
                                have hI9 := rsI.go (h1 := y_20) (f3 := updV f2 (j + n) (.ref e)) (PA := fun q => q ∈ ([] : List Nat)) (PB := fun q => q ∈ ([e] : List Nat)) hI hjl (fun i q hi2 hne hq => hFB.2 q (by have := (hMl i q hi2 hq).1; omega) (fun z9 => z9.elim (fun e9 => (hMl i q hi2 hq).2.1 e9) (fun z8 => z8.elim (fun e9 => by have := (hMl i q hi2 hq).1; omega) (fun m9 => hne (hDj i j q hi2 hjl hq m9))))) (fun i e1_ e2_ => by simp [updV, e1_, e2_]) (by rw [hfA]; exact hRB.1) (by rw [hfB]; exact hRB.2) (fun q m9 => (hMF q).mpr (Or.inl m9)) (fun q m9 => (hMF q).mpr (Or.inr m9))
                                exact AW.lvs (lv' := [(7, .int (nI (j + 1))), (6, .ref u_2), (4, .int (nI (2 * n))), (2, .int (nI n)), (1, .ref t), (0, .ref m)]) (AW.eq (lv2 := _) (rfl) rfl rfl rfl rfl (ih_151 y_20 (j + 1) (updV f1 j (.null)) (updV f2 (j + n) (.ref e)) _ hjl f_21 (fun i hi2 => by have e9 := hE1 i (by omega); simp [updV, e9, show i ≠ j by omega]) w_20.1 f_22 hI9 (Fr.w (Fr.w (Fr.c (Fr.w hFc w_7 (Or.inl (Or.inr (Or.inl rfl)))) hF2 (fun a9 z9 => Or.inl (Or.inr (Or.inr ⟨j, hjl, z9⟩)))) w_18 (Or.inl (Or.inr (Or.inr ⟨j, hjl, hMe⟩)))) w_20 (Or.inr (by omega))) (by omega) (by omega))) (by simp)
                              · skip
                                refine aw_aloadN (n := 254) dJ4_resize_252 3 rfl rfl ?_
                                refine aw_ifnonnullN (n := 257) dJ4_resize_254 rfl ?_
                                refine aw_aload (n := 259) dJ4_resize_257 5 rfl rfl ?_
                                refine aw_astore (n := 261) (lv' := [(9, .ref e), (13, .null), (12, .null), (11, .null), (10, .null), (8, .ref e), (7, .int (nI j)), (6, .ref u_2), (4, .int (nI (2 * n))), (2, .int (nI n)), (1, .ref t), (0, .ref m)]) dJ4_resize_259 (by decide) rfl rfl ?_
                                refine aw_goto (tgt := 271) dJ4_resize_261 (by decide) ?_
                                refine aw_aload (n := 273) dJ4_resize_271 5 rfl rfl ?_
                                refine aw_astore (n := 275) (lv' := [(10, .ref e), (9, .ref e), (13, .null), (12, .null), (11, .null), (8, .ref e), (7, .int (nI j)), (6, .ref u_2), (4, .int (nI (2 * n))), (2, .int (nI n)), (1, .ref t), (0, .ref m)]) dJ4_resize_273 (by decide) rfl rfl ?_
                                refine aw_goto (tgt := 301) dJ4_resize_275 (by decide) ?_
                                refine aw_aloadN (n := 303) dJ4_resize_301 2 rfl rfl ?_
                                refine aw_dup (n := 304) dJ4_resize_303 rfl rfl ?_
                                refine aw_astoreN (n := 306) (lv' := [(8, .null), (10, .ref e), (9, .ref e), (13, .null), (12, .null), (11, .null), (7, .int (nI j)), (6, .ref u_2), (4, .int (nI (2 * n))), (2, .int (nI n)), (1, .ref t), (0, .ref m)]) dJ4_resize_304 (by decide) rfl rfl ?_
                                refine aw_ifnonnullN (n := 309) dJ4_resize_306 rfl ?_
                                have hndF : ([e] ++ []).Nodup := by have g9 := hndL; rw [eR] at g9; simpa using g9
                                obtain ⟨hnA2, hnB2, hdA2⟩ := List.nodup_append.mp hndF
                                have hMF : ∀ q, Ms j q ↔ q ∈ [e] ∨ q ∈ [] := fun q => (hM2_ q).trans (by rw [eR]; simp only [List.mem_append, List.mem_cons, List.not_mem_nil] <;> grind)
                                refine aw_aload (n := 311) dJ4_resize_309 1 rfl rfl ?_
                                refine aw_ifnull (n := 314) dJ4_resize_311 rfl ?_
                                refine aw_aload (n := 316) dJ4_resize_314 1 rfl rfl ?_
                                refine aw_null (n := 317) dJ4_resize_316 rfl ?_
                                refine aw_putK (n := 320) (fs' := [.int (κ e).1, .ref (κ e).2.1, .ref (κ e).2.2, va_rf none]) (C0 := RJ25) (T := TJ25) (N := 4) (ci := 26) dJ4_resize_317 rfl in_J25 tyJ25 tyJ25_ok nmJ25 q1541 3 (by decide) q1560 (Or.inl rfl) (Or.inl rfl) rfl (hC2 e hMe).1 (hC2 e hMe).2 rfl rfl (Nat.le_of_ble_eq_true rfl) rfl rfl (fun y_23 w_23 => ?_)
                                have zy_23 : y_23.1 = h2.1 := w_23.2.2
                                have hC_23 := CPic.pnx (v := none) hC2 w_23
                                refine aw_aload (n := 322) dJ4_resize_320 7 rfl rfl ?_
                                refine aw_iload (n := 324) dJ4_resize_322 6 rfl rfl ?_
                                refine aw_aload (n := 326) dJ4_resize_324 2 rfl rfl ?_
                                have f_24 : y_23.2 u_2 = some (har 5 (2 * n) f2) := (w_23.k (Ne.symm (hMo e hMe).2) (hF2.k (by omega) (fun z9 => (hMo _ z9).2 rfl) (w_7.k (Ne.symm (by omega)) hA2)))
                                refine aw_aastK (n := 327) (ti := 5) (N := (2 * n)) (f' := updV f2 j (.ref e)) dJ4_resize_326 rfl j rfl f_24 bu_2 (by omega) (by omega) rfl (hC_23 e hMe).1 (Or.inl rfl) rfl rfl (fun y_25 w_25 => ?_)
                                have zy_25 : y_25.1 = y_23.1 := w_25.2.2
                                have hC_w_25 := hC_23.w w_25 (fun x hx => (hMo x hx).2)
                                refine aw_aloadN (n := 329) dJ4_resize_327 4 rfl rfl ?_
                                refine aw_ifnullN (tgt := 347) dJ4_resize_329 (by decide) ?_
                                have hcA9 : chn (up nx1 e none) (some e) [e] := (och.one.close hnA2)
                                have hcB9 : chn (up nx1 e none) none [] := (rfl : chn _ none [])
                                have hRB := resBin (sz := sz) (oA := (some e)) (oB := none) hn2 hjl hK hMF (fun q m9 => by have e9 := List.mem_singleton.mp m9; rw [e9]; exact c_249) hlB hC_w_25 hcA9 hcB9 hndF (by have g9 := hln; rw [eR] at g9; simp only [List.length_nil, List.length_cons, List.length_append] at g9 ⊢; omega)
                                refine aw_iinc (n := 350) (v := nI (j + 1)) (lv' := [(7, .int (nI (j + 1))), (8, .null), (10, .ref e), (9, .ref e), (13, .null), (12, .null), (11, .null), (6, .ref u_2), (4, .int (nI (2 * n))), (2, .int (nI n)), (1, .ref t), (0, .ref m)]) dJ4_resize_347 6 rfl (by rw [show nI j = nI j from rfl]; exact nI_1 _) (by decide) rfl rfl ?_
                                refine aw_goto (tgt := 151) dJ4_resize_350 (by decide) ?_
                                have f_26 : y_25.2 t = some (har 5 n (updV f1 j (.null))) := (w_25.k (by omega) (w_23.k (Ne.symm (hMo e hMe).1) (hF2.k (by omega) (fun z9 => (hMo _ z9).1 rfl) w_7.1)))
                                have f_27 : y_25.2 m = some (hob 25 [.null, .null, .ref u_2, .null, .int (nI sF), .int mc, .int (nI (3 * (2 * n) / 4)), lv]) := (w_25.k (ne_kind hm1 hA2 ob_ar) (w_23.k (fun e9 => (hMl j e hjl hMe).2.2 e9.symm) (hF2.k (by omega) (fun z9 => (hMl j m hjl z9).2.2 rfl) (w_7.k (ne_kind hm1 hA1 ob_ar) hm1))))
                                have hFB : Fr (fun q => q = t ∨ q = u_2 ∨ Ms j q) hh y_25 := (Fr.w (Fr.w (Fr.c (Fr.w Fr.rf w_7 (Or.inl (Or.inl rfl))) hF2 (fun a9 z9 => Or.inl (Or.inr (Or.inr z9)))) w_23 (Or.inl (Or.inr (Or.inr hMe)))) w_25 (Or.inl (Or.inr (Or.inl rfl))))
                                have nu9 := (hI.1 j (Nat.le_refl _) hjl).2
                                have hfA : (updV f2 j (.ref e)) j = va_rf (some e) := by simp [updV, va_rf, nu9.1, hn0, show j ≠ j + n by omega]
                                have hfB : (updV f2 j (.ref e)) (j + n) = va_rf none := by simp [updV, va_rf, nu9.2, hn0, show j + n ≠ j by omega]
                                have hI9 := rsI.go (h1 := y_25) (f3 := updV f2 j (.ref e)) (PA := fun q => q ∈ ([e] : List Nat)) (PB := fun q => q ∈ ([] : List Nat)) hI hjl (fun i q hi2 hne hq => hFB.2 q (by have := (hMl i q hi2 hq).1; omega) (fun z9 => z9.elim (fun e9 => (hMl i q hi2 hq).2.1 e9) (fun z8 => z8.elim (fun e9 => by have := (hMl i q hi2 hq).1; omega) (fun m9 => hne (hDj i j q hi2 hjl hq m9))))) (fun i e1_ e2_ => by simp [updV, e1_, e2_]) (by rw [hfA]; exact hRB.1) (by rw [hfB]; exact hRB.2) (fun q m9 => (hMF q).mpr (Or.inl m9)) (fun q m9 => (hMF q).mpr (Or.inr m9))
                                exact AW.lvs (lv' := [(7, .int (nI (j + 1))), (6, .ref u_2), (4, .int (nI (2 * n))), (2, .int (nI n)), (1, .ref t), (0, .ref m)]) (AW.eq (lv2 := _) (rfl) rfl rfl rfl rfl (ih_151 y_25 (j + 1) (updV f1 j (.null)) (updV f2 j (.ref e)) _ hjl f_26 (fun i hi2 => by have e9 := hE1 i (by omega); simp [updV, e9, show i ≠ j by omega]) w_25.1 f_27 hI9 (Fr.w (Fr.w (Fr.c (Fr.w hFc w_7 (Or.inl (Or.inr (Or.inl rfl)))) hF2 (fun a9 z9 => Or.inl (Or.inr (Or.inr ⟨j, hjl, z9⟩)))) w_23 (Or.inl (Or.inr (Or.inr ⟨j, hjl, hMe⟩)))) w_25 (Or.inr (by omega))) (by omega) (by omega))) (by simp)
                            · skip
                              obtain ⟨R1, eR⟩ : ∃ R1, R = e237_17 :: R1 := by cases R with | nil => rw [hq_17] at hR2; cases hR2 | cons a9 L9 => exact ⟨L9, by have g9 := hR2.1; rw [hq_17] at g9; cases g9; rfl⟩
                              refine aw_getf (n := 240) (v := .ref e237_17) (C0 := RJ25) (T := TJ25) dJ4_resize_237 rfl 3 q1560 (Or.inl rfl) (hC2 e hMe).1 (congrArg (fun z9 => some (va_rf z9)) (show nx1 e = some e237_17 from by exact hq_17)) rfl ?_
                              refine aw_astore (n := 242) (lv' := [(13, .ref e237_17), (12, .null), (11, .null), (10, .null), (9, .null), (8, .ref e), (7, .int (nI j)), (6, .ref u_2), (4, .int (nI (2 * n))), (2, .int (nI n)), (1, .ref t), (0, .ref m)]) dJ4_resize_240 (by decide) rfl rfl ?_
                              refine aw_aload (n := 244) dJ4_resize_242 5 rfl rfl ?_
                              refine aw_getf (n := 247) (v := .int ((κ e).1)) (C0 := RJ25) (T := TJ25) dJ4_resize_244 rfl 0 q1549 (Or.inl rfl) (hC2 e hMe).1 rfl rfl ?_
                              refine aw_iload_n (n := 248) dJ4_resize_247 rfl 9 rfl rfl ?_
                              refine aw_iand (n := 249) dJ4_resize_248 rfl ?_
                              refine aw_if_ne (n := 252) (tgt := 278) dJ4_resize_249 (by decide) rfl (fun c_249_2 => ?_) (fun c_249_2 => ?_)
                              · skip
                                refine aw_aloadN (n := 280) dJ4_resize_278 1 rfl rfl ?_
                                refine aw_ifnonnullN (n := 283) dJ4_resize_280 rfl ?_
                                refine aw_aload (n := 285) dJ4_resize_283 5 rfl rfl ?_
                                refine aw_astore (n := 287) (lv' := [(11, .ref e), (13, .ref e237_17), (12, .null), (10, .null), (9, .null), (8, .ref e), (7, .int (nI j)), (6, .ref u_2), (4, .int (nI (2 * n))), (2, .int (nI n)), (1, .ref t), (0, .ref m)]) dJ4_resize_285 (by decide) rfl rfl ?_
                                refine aw_goto (tgt := 297) dJ4_resize_287 (by decide) ?_
                                refine aw_aload (n := 299) dJ4_resize_297 5 rfl rfl ?_
                                refine aw_astore (n := 301) (lv' := [(12, .ref e), (11, .ref e), (13, .ref e237_17), (10, .null), (9, .null), (8, .ref e), (7, .int (nI j)), (6, .ref u_2), (4, .int (nI (2 * n))), (2, .int (nI n)), (1, .ref t), (0, .ref m)]) dJ4_resize_299 (by decide) rfl rfl ?_
                                refine aw_aload (n := 303) dJ4_resize_301 2 rfl rfl ?_
                                refine aw_dup (n := 304) dJ4_resize_303 rfl rfl ?_
                                refine aw_astore (n := 306) (lv' := [(8, .ref e237_17), (12, .ref e), (11, .ref e), (13, .ref e237_17), (10, .null), (9, .null), (7, .int (nI j)), (6, .ref u_2), (4, .int (nI (2 * n))), (2, .int (nI n)), (1, .ref t), (0, .ref m)]) dJ4_resize_304 (by decide) rfl rfl ?_
                                refine aw_ifnonnull (tgt := 235) dJ4_resize_306 (by decide) ?_
                                have lR9 : R.length = R1.length + 1 := by rw [eR]; rfl
                                exact AW.lvs (lv' := [(12, .ref e), (11, .ref e), (10, .null), (9, .null), (8, .ref e237_17), (7, .int (nI j)), (6, .ref u_2), (4, .int (nI (2 * n))), (2, .int (nI n)), (1, .ref t), (0, .ref m)]) (AW.eq (lv2 := _) (rfl) rfl rfl rfl rfl (ih_235 h2 nx1 [] [e] R1 e237_17 none none (some e) (some e) hC2 (by have g9 := hR2; rw [eR] at g9; exact g9.2) hoA och.one (fun q => (hM2_ q).trans (by rw [eR]; simp only [List.mem_append, List.mem_cons, List.not_mem_nil] <;> grind)) (by have g9 := hndH; rw [eR] at g9; simpa using g9) hlA (fun q m9 => by have e9 := List.mem_singleton.mp m9; rw [e9]; exact c_249_2) (by have g9 := hln; simp only [List.length_nil, List.length_cons, List.length_append] at g9 ⊢; omega) hF2 (by omega) (by omega))) (by simp)
                              · skip
                                refine aw_aloadN (n := 254) dJ4_resize_252 3 rfl rfl ?_
                                refine aw_ifnonnullN (n := 257) dJ4_resize_254 rfl ?_
                                refine aw_aload (n := 259) dJ4_resize_257 5 rfl rfl ?_
                                refine aw_astore (n := 261) (lv' := [(9, .ref e), (13, .ref e237_17), (12, .null), (11, .null), (10, .null), (8, .ref e), (7, .int (nI j)), (6, .ref u_2), (4, .int (nI (2 * n))), (2, .int (nI n)), (1, .ref t), (0, .ref m)]) dJ4_resize_259 (by decide) rfl rfl ?_
                                refine aw_goto (tgt := 271) dJ4_resize_261 (by decide) ?_
                                refine aw_aload (n := 273) dJ4_resize_271 5 rfl rfl ?_
                                refine aw_astore (n := 275) (lv' := [(10, .ref e), (9, .ref e), (13, .ref e237_17), (12, .null), (11, .null), (8, .ref e), (7, .int (nI j)), (6, .ref u_2), (4, .int (nI (2 * n))), (2, .int (nI n)), (1, .ref t), (0, .ref m)]) dJ4_resize_273 (by decide) rfl rfl ?_
                                refine aw_goto (tgt := 301) dJ4_resize_275 (by decide) ?_
                                refine aw_aload (n := 303) dJ4_resize_301 2 rfl rfl ?_
                                refine aw_dup (n := 304) dJ4_resize_303 rfl rfl ?_
                                refine aw_astore (n := 306) (lv' := [(8, .ref e237_17), (10, .ref e), (9, .ref e), (13, .ref e237_17), (12, .null), (11, .null), (7, .int (nI j)), (6, .ref u_2), (4, .int (nI (2 * n))), (2, .int (nI n)), (1, .ref t), (0, .ref m)]) dJ4_resize_304 (by decide) rfl rfl ?_
                                refine aw_ifnonnull (tgt := 235) dJ4_resize_306 (by decide) ?_
                                have lR9 : R.length = R1.length + 1 := by rw [eR]; rfl
                                exact AW.lvs (lv' := [(12, .null), (11, .null), (10, .ref e), (9, .ref e), (8, .ref e237_17), (7, .int (nI j)), (6, .ref u_2), (4, .int (nI (2 * n))), (2, .int (nI n)), (1, .ref t), (0, .ref m)]) (AW.eq (lv2 := _) (rfl) rfl rfl rfl rfl (ih_235 h2 nx1 [e] [] R1 e237_17 (some e) (some e) none none hC2 (by have g9 := hR2; rw [eR] at g9; exact g9.2) och.one hoB (fun q => (hM2_ q).trans (by rw [eR]; simp only [List.mem_append, List.mem_cons, List.not_mem_nil] <;> grind)) (by have g9 := hndL; rw [eR] at g9; simpa using g9) (fun q m9 => by have e9 := List.mem_singleton.mp m9; rw [e9]; exact c_249_2) hlB (by have g9 := hln; simp only [List.length_nil, List.length_cons, List.length_append] at g9 ⊢; omega) hF2 (by omega) (by omega))) (by simp)
                          · skip
                            refine AW.eq (lv2 := [(12, .ref t3), (11, .ref a3), (10, .null), (9, .null), (8, .ref e), (7, .int (nI j)), (6, .ref u_2), (4, .int (nI (2 * n))), (2, .int (nI n)), (1, .ref t), (0, .ref m)]) (s2 := []) rfl rfl rfl rfl rfl ?_
                            refine aw_aload (n := 237) dJ4_resize_235 4 rfl rfl ?_
                            rcases optc (nx1 e) with hq_28 | ⟨e237_28, hq_28⟩
                            · skip
                              have eR : R = [] := by cases h9 : R with | nil => rfl | cons a9 L9 => rw [h9, hq_28] at hR2; cases hR2.1
                              refine aw_getf (n := 240) (v := .null) (C0 := RJ25) (T := TJ25) dJ4_resize_237 rfl 3 q1560 (Or.inl rfl) (hC2 e hMe).1 (congrArg (fun z9 => some (va_rf z9)) (show nx1 e = none from by exact hq_28)) rfl ?_
                              refine aw_astoreN (n := 242) (lv' := [(13, .null), (12, .ref t3), (11, .ref a3), (10, .null), (9, .null), (8, .ref e), (7, .int (nI j)), (6, .ref u_2), (4, .int (nI (2 * n))), (2, .int (nI n)), (1, .ref t), (0, .ref m)]) dJ4_resize_240 (by decide) rfl rfl ?_
                              refine aw_aload (n := 244) dJ4_resize_242 5 rfl rfl ?_
                              refine aw_getf (n := 247) (v := .int ((κ e).1)) (C0 := RJ25) (T := TJ25) dJ4_resize_244 rfl 0 q1549 (Or.inl rfl) (hC2 e hMe).1 rfl rfl ?_
                              refine aw_iload_n (n := 248) dJ4_resize_247 rfl 9 rfl rfl ?_
                              refine aw_iand (n := 249) dJ4_resize_248 rfl ?_
                              refine aw_if_ne (n := 252) (tgt := 278) dJ4_resize_249 (by decide) rfl (fun c_249 => ?_) (fun c_249 => ?_)
                              · skip
                                refine aw_aload (n := 280) dJ4_resize_278 1 rfl rfl ?_
                                refine aw_ifnonnull (tgt := 290) dJ4_resize_280 (by decide) ?_
                                refine aw_aload (n := 292) dJ4_resize_290 1 rfl rfl ?_
                                refine aw_aload (n := 294) dJ4_resize_292 5 rfl rfl ?_
                                refine aw_putK (n := 297) (fs' := [.int (κ t3).1, .ref (κ t3).2.1, .ref (κ t3).2.2, va_rf (some e)]) (C0 := RJ25) (T := TJ25) (N := 4) (ci := 26) dJ4_resize_294 rfl in_J25 tyJ25 tyJ25_ok nmJ25 q1541 3 (by decide) q1560 (Or.inl rfl) (Or.inl rfl) rfl (hC2 t3 ((hM2_ t3).mpr (Or.inr (Or.inl hmB)))).1 (hC2 t3 ((hM2_ t3).mpr (Or.inr (Or.inl hmB)))).2 rfl rfl (Nat.le_of_ble_eq_true rfl) rfl rfl (fun y_29 w_29 => ?_)
                                have zy_29 : y_29.1 = h2.1 := w_29.2.2
                                have hC_29 := CPic.pnx (v := some e) hC2 w_29
                                refine aw_aload (n := 299) dJ4_resize_297 5 rfl rfl ?_
                                refine aw_astore (n := 301) (lv' := [(12, .ref e), (13, .null), (11, .ref a3), (10, .null), (9, .null), (8, .ref e), (7, .int (nI j)), (6, .ref u_2), (4, .int (nI (2 * n))), (2, .int (nI n)), (1, .ref t), (0, .ref m)]) dJ4_resize_299 (by decide) rfl rfl ?_
                                refine aw_aloadN (n := 303) dJ4_resize_301 1 rfl rfl ?_
                                refine aw_dup (n := 304) dJ4_resize_303 rfl rfl ?_
                                refine aw_astoreN (n := 306) (lv' := [(8, .null), (12, .ref e), (13, .null), (11, .ref a3), (10, .null), (9, .null), (7, .int (nI j)), (6, .ref u_2), (4, .int (nI (2 * n))), (2, .int (nI n)), (1, .ref t), (0, .ref m)]) dJ4_resize_304 (by decide) rfl rfl ?_
                                refine aw_ifnonnullN (n := 309) dJ4_resize_306 rfl ?_
                                have hndF : ([] ++ (B ++ [e])).Nodup := by have g9 := hndH; rw [eR] at g9; simpa using g9
                                obtain ⟨hnA2, hnB2, hdA2⟩ := List.nodup_append.mp hndF
                                have hMF : ∀ q, Ms j q ↔ q ∈ [] ∨ q ∈ (B ++ [e]) := fun q => (hM2_ q).trans (by rw [eR]; simp only [List.mem_append, List.mem_cons, List.not_mem_nil] <;> grind)
                                refine aw_aloadN (n := 311) dJ4_resize_309 4 rfl rfl ?_
                                refine aw_ifnullN (tgt := 327) dJ4_resize_311 (by decide) ?_
                                refine aw_aload (n := 329) dJ4_resize_327 1 rfl rfl ?_
                                refine aw_ifnull (n := 332) dJ4_resize_329 rfl ?_
                                refine aw_aload (n := 334) dJ4_resize_332 1 rfl rfl ?_
                                refine aw_null (n := 335) dJ4_resize_334 rfl ?_
                                refine aw_putK (n := 338) (fs' := [.int (κ e).1, .ref (κ e).2.1, .ref (κ e).2.2, va_rf none]) (C0 := RJ25) (T := TJ25) (N := 4) (ci := 26) dJ4_resize_335 rfl in_J25 tyJ25 tyJ25_ok nmJ25 q1541 3 (by decide) q1560 (Or.inl rfl) (Or.inl rfl) rfl (hC_29 e hMe).1 (hC_29 e hMe).2 rfl rfl (Nat.le_of_ble_eq_true rfl) rfl rfl (fun y_30 w_30 => ?_)
                                have zy_30 : y_30.1 = y_29.1 := w_30.2.2
                                have hC_30 := CPic.pnx (v := none) hC_29 w_30
                                refine aw_aload (n := 340) dJ4_resize_338 7 rfl rfl ?_
                                refine aw_iload (n := 342) dJ4_resize_340 6 rfl rfl ?_
                                refine aw_iload_n (n := 343) dJ4_resize_342 rfl 9 rfl rfl ?_
                                refine aw_iadd (n := 344) dJ4_resize_343 rfl ?_
                                refine aw_aload (n := 346) dJ4_resize_344 3 rfl rfl ?_
                                have f_31 : y_30.2 u_2 = some (har 5 (2 * n) f2) := (w_30.k (Ne.symm (hMo e hMe).2) (w_29.k (Ne.symm (hMo t3 ((hM2_ t3).mpr (Or.inr (Or.inl hmB)))).2) (hF2.k (by omega) (fun z9 => (hMo _ z9).2 rfl) (w_7.k (Ne.symm (by omega)) hA2))))
                                refine aw_aastK (n := 347) (ti := 5) (N := (2 * n)) (f' := updV f2 (j + n) (.ref a3)) dJ4_resize_346 rfl (j + n) (by rw [show (nI j : Int32) = nI j from rfl, show (nI n : Int32) = nI n from rfl]; exact nI_add _ _) f_31 bu_2 (by omega) (by omega) rfl (hC_30 a3 ((hM2_ a3).mpr (Or.inr (Or.inl hmB0)))).1 (Or.inl rfl) rfl rfl (fun y_32 w_32 => ?_)
                                have zy_32 : y_32.1 = y_30.1 := w_32.2.2
                                have hC_w_32 := hC_30.w w_32 (fun x hx => (hMo x hx).2)
                                have hcA9 : chn (up (up nx1 t3 (some e)) e none) none [] := (rfl : chn _ none [])
                                have hcB9 : chn (up (up nx1 t3 (some e)) e none) (some a3) (B ++ [e]) := ((hoB.snoc hnB).close hnB2)
                                have hRB := resBin (sz := sz) (oA := none) (oB := (some a3)) hn2 hjl hK hMF hlA (fun q m9 => by rcases List.mem_append.mp m9 with m8 | m8; exact hlB q m8; (have e9 := List.mem_singleton.mp m8; rw [e9]; exact c_249)) hC_w_32 hcA9 hcB9 hndF (by have g9 := hln; rw [eR] at g9; simp only [List.length_nil, List.length_cons, List.length_append] at g9 ⊢; omega)
                                refine aw_iinc (n := 350) (v := nI (j + 1)) (lv' := [(7, .int (nI (j + 1))), (8, .null), (12, .ref e), (13, .null), (11, .ref a3), (10, .null), (9, .null), (6, .ref u_2), (4, .int (nI (2 * n))), (2, .int (nI n)), (1, .ref t), (0, .ref m)]) dJ4_resize_347 6 rfl (by rw [show nI j = nI j from rfl]; exact nI_1 _) (by decide) rfl rfl ?_
                                refine aw_goto (tgt := 151) dJ4_resize_350 (by decide) ?_
                                have f_33 : y_32.2 t = some (har 5 n (updV f1 j (.null))) := (w_32.k (by omega) (w_30.k (Ne.symm (hMo e hMe).1) (w_29.k (Ne.symm (hMo t3 ((hM2_ t3).mpr (Or.inr (Or.inl hmB)))).1) (hF2.k (by omega) (fun z9 => (hMo _ z9).1 rfl) w_7.1))))
                                have f_34 : y_32.2 m = some (hob 25 [.null, .null, .ref u_2, .null, .int (nI sF), .int mc, .int (nI (3 * (2 * n) / 4)), lv]) := (w_32.k (ne_kind hm1 hA2 ob_ar) (w_30.k (fun e9 => (hMl j e hjl hMe).2.2 e9.symm) (w_29.k (fun e9 => (hMl j t3 hjl ((hM2_ t3).mpr (Or.inr (Or.inl hmB)))).2.2 e9.symm) (hF2.k (by omega) (fun z9 => (hMl j m hjl z9).2.2 rfl) (w_7.k (ne_kind hm1 hA1 ob_ar) hm1)))))
                                have hFB : Fr (fun q => q = t ∨ q = u_2 ∨ Ms j q) hh y_32 := (Fr.w (Fr.w (Fr.w (Fr.c (Fr.w Fr.rf w_7 (Or.inl (Or.inl rfl))) hF2 (fun a9 z9 => Or.inl (Or.inr (Or.inr z9)))) w_29 (Or.inl (Or.inr (Or.inr ((hM2_ t3).mpr (Or.inr (Or.inl hmB))))))) w_30 (Or.inl (Or.inr (Or.inr hMe)))) w_32 (Or.inl (Or.inr (Or.inl rfl))))
                                have nu9 := (hI.1 j (Nat.le_refl _) hjl).2
                                have hfA : (updV f2 (j + n) (.ref a3)) j = va_rf none := by simp [updV, va_rf, nu9.1, hn0, show j ≠ j + n by omega]
                                have hfB : (updV f2 (j + n) (.ref a3)) (j + n) = va_rf (some a3) := by simp [updV, va_rf, nu9.2, hn0, show j + n ≠ j by omega]
                                have hI9 := rsI.go (h1 := y_32) (f3 := updV f2 (j + n) (.ref a3)) (PA := fun q => q ∈ ([] : List Nat)) (PB := fun q => q ∈ ((B ++ [e]) : List Nat)) hI hjl (fun i q hi2 hne hq => hFB.2 q (by have := (hMl i q hi2 hq).1; omega) (fun z9 => z9.elim (fun e9 => (hMl i q hi2 hq).2.1 e9) (fun z8 => z8.elim (fun e9 => by have := (hMl i q hi2 hq).1; omega) (fun m9 => hne (hDj i j q hi2 hjl hq m9))))) (fun i e1_ e2_ => by simp [updV, e1_, e2_]) (by rw [hfA]; exact hRB.1) (by rw [hfB]; exact hRB.2) (fun q m9 => (hMF q).mpr (Or.inl m9)) (fun q m9 => (hMF q).mpr (Or.inr m9))
                                exact AW.lvs (lv' := [(7, .int (nI (j + 1))), (6, .ref u_2), (4, .int (nI (2 * n))), (2, .int (nI n)), (1, .ref t), (0, .ref m)]) (AW.eq (lv2 := _) (rfl) rfl rfl rfl rfl (ih_151 y_32 (j + 1) (updV f1 j (.null)) (updV f2 (j + n) (.ref a3)) _ hjl f_33 (fun i hi2 => by have e9 := hE1 i (by omega); simp [updV, e9, show i ≠ j by omega]) w_32.1 f_34 hI9 (Fr.w (Fr.w (Fr.w (Fr.c (Fr.w hFc w_7 (Or.inl (Or.inr (Or.inl rfl)))) hF2 (fun a9 z9 => Or.inl (Or.inr (Or.inr ⟨j, hjl, z9⟩)))) w_29 (Or.inl (Or.inr (Or.inr ⟨j, hjl, ((hM2_ t3).mpr (Or.inr (Or.inl hmB)))⟩)))) w_30 (Or.inl (Or.inr (Or.inr ⟨j, hjl, hMe⟩)))) w_32 (Or.inr (by omega))) (by omega) (by omega))) (by simp)
                              · skip
                                refine aw_aloadN (n := 254) dJ4_resize_252 3 rfl rfl ?_
                                refine aw_ifnonnullN (n := 257) dJ4_resize_254 rfl ?_
                                refine aw_aload (n := 259) dJ4_resize_257 5 rfl rfl ?_
                                refine aw_astore (n := 261) (lv' := [(9, .ref e), (13, .null), (12, .ref t3), (11, .ref a3), (10, .null), (8, .ref e), (7, .int (nI j)), (6, .ref u_2), (4, .int (nI (2 * n))), (2, .int (nI n)), (1, .ref t), (0, .ref m)]) dJ4_resize_259 (by decide) rfl rfl ?_
                                refine aw_goto (tgt := 271) dJ4_resize_261 (by decide) ?_
                                refine aw_aload (n := 273) dJ4_resize_271 5 rfl rfl ?_
                                refine aw_astore (n := 275) (lv' := [(10, .ref e), (9, .ref e), (13, .null), (12, .ref t3), (11, .ref a3), (8, .ref e), (7, .int (nI j)), (6, .ref u_2), (4, .int (nI (2 * n))), (2, .int (nI n)), (1, .ref t), (0, .ref m)]) dJ4_resize_273 (by decide) rfl rfl ?_
                                refine aw_goto (tgt := 301) dJ4_resize_275 (by decide) ?_
                                refine aw_aloadN (n := 303) dJ4_resize_301 2 rfl rfl ?_
                                refine aw_dup (n := 304) dJ4_resize_303 rfl rfl ?_
                                refine aw_astoreN (n := 306) (lv' := [(8, .null), (10, .ref e), (9, .ref e), (13, .null), (12, .ref t3), (11, .ref a3), (7, .int (nI j)), (6, .ref u_2), (4, .int (nI (2 * n))), (2, .int (nI n)), (1, .ref t), (0, .ref m)]) dJ4_resize_304 (by decide) rfl rfl ?_
                                refine aw_ifnonnullN (n := 309) dJ4_resize_306 rfl ?_
                                have hndF : ([e] ++ B).Nodup := by have g9 := hndL; rw [eR] at g9; simpa using g9
                                obtain ⟨hnA2, hnB2, hdA2⟩ := List.nodup_append.mp hndF
                                have hMF : ∀ q, Ms j q ↔ q ∈ [e] ∨ q ∈ B := fun q => (hM2_ q).trans (by rw [eR]; simp only [List.mem_append, List.mem_cons, List.not_mem_nil] <;> grind)
                                refine aw_aload (n := 311) dJ4_resize_309 1 rfl rfl ?_
                                refine aw_ifnull (n := 314) dJ4_resize_311 rfl ?_
                                refine aw_aload (n := 316) dJ4_resize_314 1 rfl rfl ?_
                                refine aw_null (n := 317) dJ4_resize_316 rfl ?_
                                refine aw_putK (n := 320) (fs' := [.int (κ e).1, .ref (κ e).2.1, .ref (κ e).2.2, va_rf none]) (C0 := RJ25) (T := TJ25) (N := 4) (ci := 26) dJ4_resize_317 rfl in_J25 tyJ25 tyJ25_ok nmJ25 q1541 3 (by decide) q1560 (Or.inl rfl) (Or.inl rfl) rfl (hC2 e hMe).1 (hC2 e hMe).2 rfl rfl (Nat.le_of_ble_eq_true rfl) rfl rfl (fun y_35 w_35 => ?_)
                                have zy_35 : y_35.1 = h2.1 := w_35.2.2
                                have hC_35 := CPic.pnx (v := none) hC2 w_35
                                refine aw_aload (n := 322) dJ4_resize_320 7 rfl rfl ?_
                                refine aw_iload (n := 324) dJ4_resize_322 6 rfl rfl ?_
                                refine aw_aload (n := 326) dJ4_resize_324 2 rfl rfl ?_
                                have f_36 : y_35.2 u_2 = some (har 5 (2 * n) f2) := (w_35.k (Ne.symm (hMo e hMe).2) (hF2.k (by omega) (fun z9 => (hMo _ z9).2 rfl) (w_7.k (Ne.symm (by omega)) hA2)))
                                refine aw_aastK (n := 327) (ti := 5) (N := (2 * n)) (f' := updV f2 j (.ref e)) dJ4_resize_326 rfl j rfl f_36 bu_2 (by omega) (by omega) rfl (hC_35 e hMe).1 (Or.inl rfl) rfl rfl (fun y_37 w_37 => ?_)
                                have zy_37 : y_37.1 = y_35.1 := w_37.2.2
                                have hC_w_37 := hC_35.w w_37 (fun x hx => (hMo x hx).2)
                                refine aw_aload (n := 329) dJ4_resize_327 4 rfl rfl ?_
                                refine aw_ifnull (n := 332) dJ4_resize_329 rfl ?_
                                refine aw_aload (n := 334) dJ4_resize_332 4 rfl rfl ?_
                                refine aw_null (n := 335) dJ4_resize_334 rfl ?_
                                refine aw_putK (n := 338) (fs' := [.int (κ t3).1, .ref (κ t3).2.1, .ref (κ t3).2.2, va_rf none]) (C0 := RJ25) (T := TJ25) (N := 4) (ci := 26) dJ4_resize_335 rfl in_J25 tyJ25 tyJ25_ok nmJ25 q1541 3 (by decide) q1560 (Or.inl rfl) (Or.inl rfl) rfl (hC_w_37 t3 ((hM2_ t3).mpr (Or.inr (Or.inl hmB)))).1 (hC_w_37 t3 ((hM2_ t3).mpr (Or.inr (Or.inl hmB)))).2 rfl rfl (Nat.le_of_ble_eq_true rfl) rfl rfl (fun y_38 w_38 => ?_)
                                have zy_38 : y_38.1 = y_37.1 := w_38.2.2
                                have hC_38 := CPic.pnx (v := none) hC_w_37 w_38
                                refine aw_aload (n := 340) dJ4_resize_338 7 rfl rfl ?_
                                refine aw_iload (n := 342) dJ4_resize_340 6 rfl rfl ?_
                                refine aw_iload_n (n := 343) dJ4_resize_342 rfl 9 rfl rfl ?_
                                refine aw_iadd (n := 344) dJ4_resize_343 rfl ?_
                                refine aw_aload (n := 346) dJ4_resize_344 5 rfl rfl ?_
                                have f_39 : y_38.2 u_2 = some (har 5 (2 * n) (updV f2 j (.ref e))) := (w_38.k (Ne.symm (hMo t3 ((hM2_ t3).mpr (Or.inr (Or.inl hmB)))).2) w_37.1)
                                refine aw_aastK (n := 347) (ti := 5) (N := (2 * n)) (f' := updV (updV f2 j (.ref e)) (j + n) (.ref a3)) dJ4_resize_346 rfl (j + n) (by rw [show (nI j : Int32) = nI j from rfl, show (nI n : Int32) = nI n from rfl]; exact nI_add _ _) f_39 bu_2 (by omega) (by omega) rfl (hC_38 a3 ((hM2_ a3).mpr (Or.inr (Or.inl hmB0)))).1 (Or.inl rfl) rfl rfl (fun y_40 w_40 => ?_)
                                have zy_40 : y_40.1 = y_38.1 := w_40.2.2
                                have hC_w_40 := hC_38.w w_40 (fun x hx => (hMo x hx).2)
                                have hcA9 : chn (up (up nx1 e none) t3 none) (some e) [e] := (chn.upd (och.one.close hnA2) (fun m9 => hdA2 t3 m9 t3 (by first | exact hmB | exact List.mem_singleton.mpr rfl | exact List.mem_append_right _ (List.mem_singleton.mpr rfl)) rfl))
                                have hcB9 : chn (up (up nx1 e none) t3 none) (some a3) B := ((hoB.upd (fun m9 => hdA2 e (by first | exact hmA | exact List.mem_singleton.mpr rfl | exact List.mem_append_right _ (List.mem_singleton.mpr rfl)) e m9 rfl)).close hnB2)
                                have hRB := resBin (sz := sz) (oA := (some e)) (oB := (some a3)) hn2 hjl hK hMF (fun q m9 => by have e9 := List.mem_singleton.mp m9; rw [e9]; exact c_249) hlB hC_w_40 hcA9 hcB9 hndF (by have g9 := hln; rw [eR] at g9; simp only [List.length_nil, List.length_cons, List.length_append] at g9 ⊢; omega)
                                refine aw_iinc (n := 350) (v := nI (j + 1)) (lv' := [(7, .int (nI (j + 1))), (8, .null), (10, .ref e), (9, .ref e), (13, .null), (12, .ref t3), (11, .ref a3), (6, .ref u_2), (4, .int (nI (2 * n))), (2, .int (nI n)), (1, .ref t), (0, .ref m)]) dJ4_resize_347 6 rfl (by rw [show nI j = nI j from rfl]; exact nI_1 _) (by decide) rfl rfl ?_
                                refine aw_goto (tgt := 151) dJ4_resize_350 (by decide) ?_
                                have f_41 : y_40.2 t = some (har 5 n (updV f1 j (.null))) := (w_40.k (by omega) (w_38.k (Ne.symm (hMo t3 ((hM2_ t3).mpr (Or.inr (Or.inl hmB)))).1) (w_37.k (by omega) (w_35.k (Ne.symm (hMo e hMe).1) (hF2.k (by omega) (fun z9 => (hMo _ z9).1 rfl) w_7.1)))))
                                have f_42 : y_40.2 m = some (hob 25 [.null, .null, .ref u_2, .null, .int (nI sF), .int mc, .int (nI (3 * (2 * n) / 4)), lv]) := (w_40.k (ne_kind hm1 hA2 ob_ar) (w_38.k (fun e9 => (hMl j t3 hjl ((hM2_ t3).mpr (Or.inr (Or.inl hmB)))).2.2 e9.symm) (w_37.k (ne_kind hm1 hA2 ob_ar) (w_35.k (fun e9 => (hMl j e hjl hMe).2.2 e9.symm) (hF2.k (by omega) (fun z9 => (hMl j m hjl z9).2.2 rfl) (w_7.k (ne_kind hm1 hA1 ob_ar) hm1))))))
                                have hFB : Fr (fun q => q = t ∨ q = u_2 ∨ Ms j q) hh y_40 := (Fr.w (Fr.w (Fr.w (Fr.w (Fr.c (Fr.w Fr.rf w_7 (Or.inl (Or.inl rfl))) hF2 (fun a9 z9 => Or.inl (Or.inr (Or.inr z9)))) w_35 (Or.inl (Or.inr (Or.inr hMe)))) w_37 (Or.inl (Or.inr (Or.inl rfl)))) w_38 (Or.inl (Or.inr (Or.inr ((hM2_ t3).mpr (Or.inr (Or.inl hmB))))))) w_40 (Or.inl (Or.inr (Or.inl rfl))))
                                have nu9 := (hI.1 j (Nat.le_refl _) hjl).2
                                have hfA : (updV (updV f2 j (.ref e)) (j + n) (.ref a3)) j = va_rf (some e) := by simp [updV, va_rf, nu9.1, hn0, show j ≠ j + n by omega]
                                have hfB : (updV (updV f2 j (.ref e)) (j + n) (.ref a3)) (j + n) = va_rf (some a3) := by simp [updV, va_rf, nu9.2, hn0, show j + n ≠ j by omega]
                                have hI9 := rsI.go (h1 := y_40) (f3 := updV (updV f2 j (.ref e)) (j + n) (.ref a3)) (PA := fun q => q ∈ ([e] : List Nat)) (PB := fun q => q ∈ (B : List Nat)) hI hjl (fun i q hi2 hne hq => hFB.2 q (by have := (hMl i q hi2 hq).1; omega) (fun z9 => z9.elim (fun e9 => (hMl i q hi2 hq).2.1 e9) (fun z8 => z8.elim (fun e9 => by have := (hMl i q hi2 hq).1; omega) (fun m9 => hne (hDj i j q hi2 hjl hq m9))))) (fun i e1_ e2_ => by simp [updV, e1_, e2_]) (by rw [hfA]; exact hRB.1) (by rw [hfB]; exact hRB.2) (fun q m9 => (hMF q).mpr (Or.inl m9)) (fun q m9 => (hMF q).mpr (Or.inr m9))
                                exact AW.lvs (lv' := [(7, .int (nI (j + 1))), (6, .ref u_2), (4, .int (nI (2 * n))), (2, .int (nI n)), (1, .ref t), (0, .ref m)]) (AW.eq (lv2 := _) (rfl) rfl rfl rfl rfl (ih_151 y_40 (j + 1) (updV f1 j (.null)) (updV (updV f2 j (.ref e)) (j + n) (.ref a3)) _ hjl f_41 (fun i hi2 => by have e9 := hE1 i (by omega); simp [updV, e9, show i ≠ j by omega]) w_40.1 f_42 hI9 (Fr.w (Fr.w (Fr.w (Fr.w (Fr.c (Fr.w hFc w_7 (Or.inl (Or.inr (Or.inl rfl)))) hF2 (fun a9 z9 => Or.inl (Or.inr (Or.inr ⟨j, hjl, z9⟩)))) w_35 (Or.inl (Or.inr (Or.inr ⟨j, hjl, hMe⟩)))) w_37 (Or.inr (by omega))) w_38 (Or.inl (Or.inr (Or.inr ⟨j, hjl, ((hM2_ t3).mpr (Or.inr (Or.inl hmB)))⟩)))) w_40 (Or.inr (by omega))) (by omega) (by omega))) (by simp)
                            · skip
                              obtain ⟨R1, eR⟩ : ∃ R1, R = e237_28 :: R1 := by cases R with | nil => rw [hq_28] at hR2; cases hR2 | cons a9 L9 => exact ⟨L9, by have g9 := hR2.1; rw [hq_28] at g9; cases g9; rfl⟩
                              refine aw_getf (n := 240) (v := .ref e237_28) (C0 := RJ25) (T := TJ25) dJ4_resize_237 rfl 3 q1560 (Or.inl rfl) (hC2 e hMe).1 (congrArg (fun z9 => some (va_rf z9)) (show nx1 e = some e237_28 from by exact hq_28)) rfl ?_
                              refine aw_astore (n := 242) (lv' := [(13, .ref e237_28), (12, .ref t3), (11, .ref a3), (10, .null), (9, .null), (8, .ref e), (7, .int (nI j)), (6, .ref u_2), (4, .int (nI (2 * n))), (2, .int (nI n)), (1, .ref t), (0, .ref m)]) dJ4_resize_240 (by decide) rfl rfl ?_
                              refine aw_aload (n := 244) dJ4_resize_242 5 rfl rfl ?_
                              refine aw_getf (n := 247) (v := .int ((κ e).1)) (C0 := RJ25) (T := TJ25) dJ4_resize_244 rfl 0 q1549 (Or.inl rfl) (hC2 e hMe).1 rfl rfl ?_
                              refine aw_iload_n (n := 248) dJ4_resize_247 rfl 9 rfl rfl ?_
                              refine aw_iand (n := 249) dJ4_resize_248 rfl ?_
                              refine aw_if_ne (n := 252) (tgt := 278) dJ4_resize_249 (by decide) rfl (fun c_249_2 => ?_) (fun c_249_2 => ?_)
                              · skip
                                refine aw_aload (n := 280) dJ4_resize_278 1 rfl rfl ?_
                                refine aw_ifnonnull (tgt := 290) dJ4_resize_280 (by decide) ?_
                                refine aw_aload (n := 292) dJ4_resize_290 1 rfl rfl ?_
                                refine aw_aload (n := 294) dJ4_resize_292 5 rfl rfl ?_
                                refine aw_putK (n := 297) (fs' := [.int (κ t3).1, .ref (κ t3).2.1, .ref (κ t3).2.2, va_rf (some e)]) (C0 := RJ25) (T := TJ25) (N := 4) (ci := 26) dJ4_resize_294 rfl in_J25 tyJ25 tyJ25_ok nmJ25 q1541 3 (by decide) q1560 (Or.inl rfl) (Or.inl rfl) rfl (hC2 t3 ((hM2_ t3).mpr (Or.inr (Or.inl hmB)))).1 (hC2 t3 ((hM2_ t3).mpr (Or.inr (Or.inl hmB)))).2 rfl rfl (Nat.le_of_ble_eq_true rfl) rfl rfl (fun y_43 w_43 => ?_)
                                have zy_43 : y_43.1 = h2.1 := w_43.2.2
                                have hC_43 := CPic.pnx (v := some e) hC2 w_43
                                refine aw_aload (n := 299) dJ4_resize_297 5 rfl rfl ?_
                                refine aw_astore (n := 301) (lv' := [(12, .ref e), (13, .ref e237_28), (11, .ref a3), (10, .null), (9, .null), (8, .ref e), (7, .int (nI j)), (6, .ref u_2), (4, .int (nI (2 * n))), (2, .int (nI n)), (1, .ref t), (0, .ref m)]) dJ4_resize_299 (by decide) rfl rfl ?_
                                refine aw_aload (n := 303) dJ4_resize_301 1 rfl rfl ?_
                                refine aw_dup (n := 304) dJ4_resize_303 rfl rfl ?_
                                refine aw_astore (n := 306) (lv' := [(8, .ref e237_28), (12, .ref e), (13, .ref e237_28), (11, .ref a3), (10, .null), (9, .null), (7, .int (nI j)), (6, .ref u_2), (4, .int (nI (2 * n))), (2, .int (nI n)), (1, .ref t), (0, .ref m)]) dJ4_resize_304 (by decide) rfl rfl ?_
                                refine aw_ifnonnull (tgt := 235) dJ4_resize_306 (by decide) ?_
                                have lR9 : R.length = R1.length + 1 := by rw [eR]; rfl
                                exact AW.lvs (lv' := [(12, .ref e), (11, .ref a3), (10, .null), (9, .null), (8, .ref e237_28), (7, .int (nI j)), (6, .ref u_2), (4, .int (nI (2 * n))), (2, .int (nI n)), (1, .ref t), (0, .ref m)]) (AW.eq (lv2 := _) (rfl) rfl rfl rfl rfl (ih_235 y_43 (up nx1 t3 (some e)) [] (B ++ [e]) R1 e237_28 none none (some a3) (some e) hC_43 (by have g9 := hR2; rw [eR] at g9; have g8 := nBR t3 hmB; rw [eR] at g8; rw [show up nx1 t3 (some e) e237_28 = nx1 e237_28 from (by unfold up; exact if_neg (fun e9 => g8 (by rw [← e9]; exact List.mem_cons_self)))]; exact chn.upd g9.2 (fun m9 => g8 (List.mem_cons_of_mem _ m9))) (hoA.upd (fun m9 => nAB t3 m9 hmB)) (hoB.snoc hnB) (fun q => (hM2_ q).trans (by rw [eR]; simp only [List.mem_append, List.mem_cons, List.not_mem_nil] <;> grind)) (by have g9 := hndH; rw [eR] at g9; simpa using g9) hlA (fun q m9 => by rcases List.mem_append.mp m9 with m8 | m8; exact hlB q m8; (have e9 := List.mem_singleton.mp m8; rw [e9]; exact c_249_2)) (by have g9 := hln; simp only [List.length_nil, List.length_cons, List.length_append] at g9 ⊢; omega) (Fr.w hF2 w_43 (Or.inl ((hM2_ t3).mpr (Or.inr (Or.inl hmB))))) (by omega) (by omega))) (by simp)
                              · skip
                                refine aw_aloadN (n := 254) dJ4_resize_252 3 rfl rfl ?_
                                refine aw_ifnonnullN (n := 257) dJ4_resize_254 rfl ?_
                                refine aw_aload (n := 259) dJ4_resize_257 5 rfl rfl ?_
                                refine aw_astore (n := 261) (lv' := [(9, .ref e), (13, .ref e237_28), (12, .ref t3), (11, .ref a3), (10, .null), (8, .ref e), (7, .int (nI j)), (6, .ref u_2), (4, .int (nI (2 * n))), (2, .int (nI n)), (1, .ref t), (0, .ref m)]) dJ4_resize_259 (by decide) rfl rfl ?_
                                refine aw_goto (tgt := 271) dJ4_resize_261 (by decide) ?_
                                refine aw_aload (n := 273) dJ4_resize_271 5 rfl rfl ?_
                                refine aw_astore (n := 275) (lv' := [(10, .ref e), (9, .ref e), (13, .ref e237_28), (12, .ref t3), (11, .ref a3), (8, .ref e), (7, .int (nI j)), (6, .ref u_2), (4, .int (nI (2 * n))), (2, .int (nI n)), (1, .ref t), (0, .ref m)]) dJ4_resize_273 (by decide) rfl rfl ?_
                                refine aw_goto (tgt := 301) dJ4_resize_275 (by decide) ?_
                                refine aw_aload (n := 303) dJ4_resize_301 2 rfl rfl ?_
                                refine aw_dup (n := 304) dJ4_resize_303 rfl rfl ?_
                                refine aw_astore (n := 306) (lv' := [(8, .ref e237_28), (10, .ref e), (9, .ref e), (13, .ref e237_28), (12, .ref t3), (11, .ref a3), (7, .int (nI j)), (6, .ref u_2), (4, .int (nI (2 * n))), (2, .int (nI n)), (1, .ref t), (0, .ref m)]) dJ4_resize_304 (by decide) rfl rfl ?_
                                refine aw_ifnonnull (tgt := 235) dJ4_resize_306 (by decide) ?_
                                have lR9 : R.length = R1.length + 1 := by rw [eR]; rfl
                                exact AW.lvs (lv' := [(12, .ref t3), (11, .ref a3), (10, .ref e), (9, .ref e), (8, .ref e237_28), (7, .int (nI j)), (6, .ref u_2), (4, .int (nI (2 * n))), (2, .int (nI n)), (1, .ref t), (0, .ref m)]) (AW.eq (lv2 := _) (rfl) rfl rfl rfl rfl (ih_235 h2 nx1 [e] B R1 e237_28 (some e) (some e) (some a3) (some t3) hC2 (by have g9 := hR2; rw [eR] at g9; exact g9.2) och.one hoB (fun q => (hM2_ q).trans (by rw [eR]; simp only [List.mem_append, List.mem_cons, List.not_mem_nil] <;> grind)) (by have g9 := hndL; rw [eR] at g9; simpa using g9) (fun q m9 => by have e9 := List.mem_singleton.mp m9; rw [e9]; exact c_249_2) hlB (by have g9 := hln; simp only [List.length_nil, List.length_cons, List.length_append] at g9 ⊢; omega) hF2 (by omega) (by omega))) (by simp)
                        · rcases hoB.cs with ⟨rfl, rfl, rfl⟩ | ⟨a3, t3, rfl, rfl, hmB, hmB0⟩
                          · skip
                            refine AW.eq (lv2 := [(12, .null), (11, .null), (10, .ref t1), (9, .ref a1), (8, .ref e), (7, .int (nI j)), (6, .ref u_2), (4, .int (nI (2 * n))), (2, .int (nI n)), (1, .ref t), (0, .ref m)]) (s2 := []) rfl rfl rfl rfl rfl ?_
                            refine aw_aload (n := 237) dJ4_resize_235 4 rfl rfl ?_
                            rcases optc (nx1 e) with hq_44 | ⟨e237_44, hq_44⟩
                            · skip
                              have eR : R = [] := by cases h9 : R with | nil => rfl | cons a9 L9 => rw [h9, hq_44] at hR2; cases hR2.1
                              refine aw_getf (n := 240) (v := .null) (C0 := RJ25) (T := TJ25) dJ4_resize_237 rfl 3 q1560 (Or.inl rfl) (hC2 e hMe).1 (congrArg (fun z9 => some (va_rf z9)) (show nx1 e = none from by exact hq_44)) rfl ?_
                              refine aw_astoreN (n := 242) (lv' := [(13, .null), (12, .null), (11, .null), (10, .ref t1), (9, .ref a1), (8, .ref e), (7, .int (nI j)), (6, .ref u_2), (4, .int (nI (2 * n))), (2, .int (nI n)), (1, .ref t), (0, .ref m)]) dJ4_resize_240 (by decide) rfl rfl ?_
                              refine aw_aload (n := 244) dJ4_resize_242 5 rfl rfl ?_
                              refine aw_getf (n := 247) (v := .int ((κ e).1)) (C0 := RJ25) (T := TJ25) dJ4_resize_244 rfl 0 q1549 (Or.inl rfl) (hC2 e hMe).1 rfl rfl ?_
                              refine aw_iload_n (n := 248) dJ4_resize_247 rfl 9 rfl rfl ?_
                              refine aw_iand (n := 249) dJ4_resize_248 rfl ?_
                              refine aw_if_ne (n := 252) (tgt := 278) dJ4_resize_249 (by decide) rfl (fun c_249 => ?_) (fun c_249 => ?_)
                              · skip
                                refine aw_aloadN (n := 280) dJ4_resize_278 1 rfl rfl ?_
                                refine aw_ifnonnullN (n := 283) dJ4_resize_280 rfl ?_
                                refine aw_aload (n := 285) dJ4_resize_283 5 rfl rfl ?_
                                refine aw_astore (n := 287) (lv' := [(11, .ref e), (13, .null), (12, .null), (10, .ref t1), (9, .ref a1), (8, .ref e), (7, .int (nI j)), (6, .ref u_2), (4, .int (nI (2 * n))), (2, .int (nI n)), (1, .ref t), (0, .ref m)]) dJ4_resize_285 (by decide) rfl rfl ?_
                                refine aw_goto (tgt := 297) dJ4_resize_287 (by decide) ?_
                                refine aw_aload (n := 299) dJ4_resize_297 5 rfl rfl ?_
                                refine aw_astore (n := 301) (lv' := [(12, .ref e), (11, .ref e), (13, .null), (10, .ref t1), (9, .ref a1), (8, .ref e), (7, .int (nI j)), (6, .ref u_2), (4, .int (nI (2 * n))), (2, .int (nI n)), (1, .ref t), (0, .ref m)]) dJ4_resize_299 (by decide) rfl rfl ?_
                                refine aw_aloadN (n := 303) dJ4_resize_301 2 rfl rfl ?_
                                refine aw_dup (n := 304) dJ4_resize_303 rfl rfl ?_
                                refine aw_astoreN (n := 306) (lv' := [(8, .null), (12, .ref e), (11, .ref e), (13, .null), (10, .ref t1), (9, .ref a1), (7, .int (nI j)), (6, .ref u_2), (4, .int (nI (2 * n))), (2, .int (nI n)), (1, .ref t), (0, .ref m)]) dJ4_resize_304 (by decide) rfl rfl ?_
                                refine aw_ifnonnullN (n := 309) dJ4_resize_306 rfl ?_
                                have hndF : (A ++ [e]).Nodup := by have g9 := hndH; rw [eR] at g9; simpa using g9
                                obtain ⟨hnA2, hnB2, hdA2⟩ := List.nodup_append.mp hndF
                                have hMF : ∀ q, Ms j q ↔ q ∈ A ∨ q ∈ [e] := fun q => (hM2_ q).trans (by rw [eR]; simp only [List.mem_append, List.mem_cons, List.not_mem_nil] <;> grind)
                                refine aw_aload (n := 311) dJ4_resize_309 4 rfl rfl ?_
                                refine aw_ifnull (n := 314) dJ4_resize_311 rfl ?_
                                refine aw_aload (n := 316) dJ4_resize_314 4 rfl rfl ?_
                                refine aw_null (n := 317) dJ4_resize_316 rfl ?_
                                refine aw_putK (n := 320) (fs' := [.int (κ t1).1, .ref (κ t1).2.1, .ref (κ t1).2.2, va_rf none]) (C0 := RJ25) (T := TJ25) (N := 4) (ci := 26) dJ4_resize_317 rfl in_J25 tyJ25 tyJ25_ok nmJ25 q1541 3 (by decide) q1560 (Or.inl rfl) (Or.inl rfl) rfl (hC2 t1 ((hM2_ t1).mpr (Or.inl hmA))).1 (hC2 t1 ((hM2_ t1).mpr (Or.inl hmA))).2 rfl rfl (Nat.le_of_ble_eq_true rfl) rfl rfl (fun y_45 w_45 => ?_)
                                have zy_45 : y_45.1 = h2.1 := w_45.2.2
                                have hC_45 := CPic.pnx (v := none) hC2 w_45
                                refine aw_aload (n := 322) dJ4_resize_320 7 rfl rfl ?_
                                refine aw_iload (n := 324) dJ4_resize_322 6 rfl rfl ?_
                                refine aw_aload (n := 326) dJ4_resize_324 5 rfl rfl ?_
                                have f_46 : y_45.2 u_2 = some (har 5 (2 * n) f2) := (w_45.k (Ne.symm (hMo t1 ((hM2_ t1).mpr (Or.inl hmA))).2) (hF2.k (by omega) (fun z9 => (hMo _ z9).2 rfl) (w_7.k (Ne.symm (by omega)) hA2)))
                                refine aw_aastK (n := 327) (ti := 5) (N := (2 * n)) (f' := updV f2 j (.ref a1)) dJ4_resize_326 rfl j rfl f_46 bu_2 (by omega) (by omega) rfl (hC_45 a1 ((hM2_ a1).mpr (Or.inl hmA0))).1 (Or.inl rfl) rfl rfl (fun y_47 w_47 => ?_)
                                have zy_47 : y_47.1 = y_45.1 := w_47.2.2
                                have hC_w_47 := hC_45.w w_47 (fun x hx => (hMo x hx).2)
                                refine aw_aload (n := 329) dJ4_resize_327 1 rfl rfl ?_
                                refine aw_ifnull (n := 332) dJ4_resize_329 rfl ?_
                                refine aw_aload (n := 334) dJ4_resize_332 1 rfl rfl ?_
                                refine aw_null (n := 335) dJ4_resize_334 rfl ?_
                                refine aw_putK (n := 338) (fs' := [.int (κ e).1, .ref (κ e).2.1, .ref (κ e).2.2, va_rf none]) (C0 := RJ25) (T := TJ25) (N := 4) (ci := 26) dJ4_resize_335 rfl in_J25 tyJ25 tyJ25_ok nmJ25 q1541 3 (by decide) q1560 (Or.inl rfl) (Or.inl rfl) rfl (hC_w_47 e hMe).1 (hC_w_47 e hMe).2 rfl rfl (Nat.le_of_ble_eq_true rfl) rfl rfl (fun y_48 w_48 => ?_)
                                have zy_48 : y_48.1 = y_47.1 := w_48.2.2
                                have hC_48 := CPic.pnx (v := none) hC_w_47 w_48
                                refine aw_aload (n := 340) dJ4_resize_338 7 rfl rfl ?_
                                refine aw_iload (n := 342) dJ4_resize_340 6 rfl rfl ?_
                                refine aw_iload_n (n := 343) dJ4_resize_342 rfl 9 rfl rfl ?_
                                refine aw_iadd (n := 344) dJ4_resize_343 rfl ?_
                                refine aw_aload (n := 346) dJ4_resize_344 2 rfl rfl ?_
                                have f_49 : y_48.2 u_2 = some (har 5 (2 * n) (updV f2 j (.ref a1))) := (w_48.k (Ne.symm (hMo e hMe).2) w_47.1)
                                refine aw_aastK (n := 347) (ti := 5) (N := (2 * n)) (f' := updV (updV f2 j (.ref a1)) (j + n) (.ref e)) dJ4_resize_346 rfl (j + n) (by rw [show (nI j : Int32) = nI j from rfl, show (nI n : Int32) = nI n from rfl]; exact nI_add _ _) f_49 bu_2 (by omega) (by omega) rfl (hC_48 e hMe).1 (Or.inl rfl) rfl rfl (fun y_50 w_50 => ?_)
                                have zy_50 : y_50.1 = y_48.1 := w_50.2.2
                                have hC_w_50 := hC_48.w w_50 (fun x hx => (hMo x hx).2)
                                have hcA9 : chn (up (up nx1 t1 none) e none) (some a1) A := (chn.upd (hoA.close hnA2) (fun m9 => hdA2 e m9 e (by first | exact hmB | exact List.mem_singleton.mpr rfl | exact List.mem_append_right _ (List.mem_singleton.mpr rfl)) rfl))
                                have hcB9 : chn (up (up nx1 t1 none) e none) (some e) [e] := ((och.one.upd (fun m9 => hdA2 t1 (by first | exact hmA | exact List.mem_singleton.mpr rfl | exact List.mem_append_right _ (List.mem_singleton.mpr rfl)) t1 m9 rfl)).close hnB2)
                                have hRB := resBin (sz := sz) (oA := (some a1)) (oB := (some e)) hn2 hjl hK hMF hlA (fun q m9 => by have e9 := List.mem_singleton.mp m9; rw [e9]; exact c_249) hC_w_50 hcA9 hcB9 hndF (by have g9 := hln; rw [eR] at g9; simp only [List.length_nil, List.length_cons, List.length_append] at g9 ⊢; omega)
                                refine aw_iinc (n := 350) (v := nI (j + 1)) (lv' := [(7, .int (nI (j + 1))), (8, .null), (12, .ref e), (11, .ref e), (13, .null), (10, .ref t1), (9, .ref a1), (6, .ref u_2), (4, .int (nI (2 * n))), (2, .int (nI n)), (1, .ref t), (0, .ref m)]) dJ4_resize_347 6 rfl (by rw [show nI j = nI j from rfl]; exact nI_1 _) (by decide) rfl rfl ?_
                                refine aw_goto (tgt := 151) dJ4_resize_350 (by decide) ?_
                                have f_51 : y_50.2 t = some (har 5 n (updV f1 j (.null))) := (w_50.k (by omega) (w_48.k (Ne.symm (hMo e hMe).1) (w_47.k (by omega) (w_45.k (Ne.symm (hMo t1 ((hM2_ t1).mpr (Or.inl hmA))).1) (hF2.k (by omega) (fun z9 => (hMo _ z9).1 rfl) w_7.1)))))
                                have f_52 : y_50.2 m = some (hob 25 [.null, .null, .ref u_2, .null, .int (nI sF), .int mc, .int (nI (3 * (2 * n) / 4)), lv]) := (w_50.k (ne_kind hm1 hA2 ob_ar) (w_48.k (fun e9 => (hMl j e hjl hMe).2.2 e9.symm) (w_47.k (ne_kind hm1 hA2 ob_ar) (w_45.k (fun e9 => (hMl j t1 hjl ((hM2_ t1).mpr (Or.inl hmA))).2.2 e9.symm) (hF2.k (by omega) (fun z9 => (hMl j m hjl z9).2.2 rfl) (w_7.k (ne_kind hm1 hA1 ob_ar) hm1))))))
                                have hFB : Fr (fun q => q = t ∨ q = u_2 ∨ Ms j q) hh y_50 := (Fr.w (Fr.w (Fr.w (Fr.w (Fr.c (Fr.w Fr.rf w_7 (Or.inl (Or.inl rfl))) hF2 (fun a9 z9 => Or.inl (Or.inr (Or.inr z9)))) w_45 (Or.inl (Or.inr (Or.inr ((hM2_ t1).mpr (Or.inl hmA)))))) w_47 (Or.inl (Or.inr (Or.inl rfl)))) w_48 (Or.inl (Or.inr (Or.inr hMe)))) w_50 (Or.inl (Or.inr (Or.inl rfl))))
                                have nu9 := (hI.1 j (Nat.le_refl _) hjl).2
                                have hfA : (updV (updV f2 j (.ref a1)) (j + n) (.ref e)) j = va_rf (some a1) := by simp [updV, va_rf, nu9.1, hn0, show j ≠ j + n by omega]
                                have hfB : (updV (updV f2 j (.ref a1)) (j + n) (.ref e)) (j + n) = va_rf (some e) := by simp [updV, va_rf, nu9.2, hn0, show j + n ≠ j by omega]
                                have hI9 := rsI.go (h1 := y_50) (f3 := updV (updV f2 j (.ref a1)) (j + n) (.ref e)) (PA := fun q => q ∈ (A : List Nat)) (PB := fun q => q ∈ ([e] : List Nat)) hI hjl (fun i q hi2 hne hq => hFB.2 q (by have := (hMl i q hi2 hq).1; omega) (fun z9 => z9.elim (fun e9 => (hMl i q hi2 hq).2.1 e9) (fun z8 => z8.elim (fun e9 => by have := (hMl i q hi2 hq).1; omega) (fun m9 => hne (hDj i j q hi2 hjl hq m9))))) (fun i e1_ e2_ => by simp [updV, e1_, e2_]) (by rw [hfA]; exact hRB.1) (by rw [hfB]; exact hRB.2) (fun q m9 => (hMF q).mpr (Or.inl m9)) (fun q m9 => (hMF q).mpr (Or.inr m9))
                                exact AW.lvs (lv' := [(7, .int (nI (j + 1))), (6, .ref u_2), (4, .int (nI (2 * n))), (2, .int (nI n)), (1, .ref t), (0, .ref m)]) (AW.eq (lv2 := _) (rfl) rfl rfl rfl rfl (ih_151 y_50 (j + 1) (updV f1 j (.null)) (updV (updV f2 j (.ref a1)) (j + n) (.ref e)) _ hjl f_51 (fun i hi2 => by have e9 := hE1 i (by omega); simp [updV, e9, show i ≠ j by omega]) w_50.1 f_52 hI9 (Fr.w (Fr.w (Fr.w (Fr.w (Fr.c (Fr.w hFc w_7 (Or.inl (Or.inr (Or.inl rfl)))) hF2 (fun a9 z9 => Or.inl (Or.inr (Or.inr ⟨j, hjl, z9⟩)))) w_45 (Or.inl (Or.inr (Or.inr ⟨j, hjl, ((hM2_ t1).mpr (Or.inl hmA))⟩)))) w_47 (Or.inr (by omega))) w_48 (Or.inl (Or.inr (Or.inr ⟨j, hjl, hMe⟩)))) w_50 (Or.inr (by omega))) (by omega) (by omega))) (by simp)
                              · skip
                                refine aw_aload (n := 254) dJ4_resize_252 3 rfl rfl ?_
                                refine aw_ifnonnull (tgt := 264) dJ4_resize_254 (by decide) ?_
                                refine aw_aload (n := 266) dJ4_resize_264 3 rfl rfl ?_
                                refine aw_aload (n := 268) dJ4_resize_266 5 rfl rfl ?_
                                refine aw_putK (n := 271) (fs' := [.int (κ t1).1, .ref (κ t1).2.1, .ref (κ t1).2.2, va_rf (some e)]) (C0 := RJ25) (T := TJ25) (N := 4) (ci := 26) dJ4_resize_268 rfl in_J25 tyJ25 tyJ25_ok nmJ25 q1541 3 (by decide) q1560 (Or.inl rfl) (Or.inl rfl) rfl (hC2 t1 ((hM2_ t1).mpr (Or.inl hmA))).1 (hC2 t1 ((hM2_ t1).mpr (Or.inl hmA))).2 rfl rfl (Nat.le_of_ble_eq_true rfl) rfl rfl (fun y_53 w_53 => ?_)
                                have zy_53 : y_53.1 = h2.1 := w_53.2.2
                                have hC_53 := CPic.pnx (v := some e) hC2 w_53
                                refine aw_aload (n := 273) dJ4_resize_271 5 rfl rfl ?_
                                refine aw_astore (n := 275) (lv' := [(10, .ref e), (13, .null), (12, .null), (11, .null), (9, .ref a1), (8, .ref e), (7, .int (nI j)), (6, .ref u_2), (4, .int (nI (2 * n))), (2, .int (nI n)), (1, .ref t), (0, .ref m)]) dJ4_resize_273 (by decide) rfl rfl ?_
                                refine aw_goto (tgt := 301) dJ4_resize_275 (by decide) ?_
                                refine aw_aloadN (n := 303) dJ4_resize_301 1 rfl rfl ?_
                                refine aw_dup (n := 304) dJ4_resize_303 rfl rfl ?_
                                refine aw_astoreN (n := 306) (lv' := [(8, .null), (10, .ref e), (13, .null), (12, .null), (11, .null), (9, .ref a1), (7, .int (nI j)), (6, .ref u_2), (4, .int (nI (2 * n))), (2, .int (nI n)), (1, .ref t), (0, .ref m)]) dJ4_resize_304 (by decide) rfl rfl ?_
                                refine aw_ifnonnullN (n := 309) dJ4_resize_306 rfl ?_
                                have hndF : ((A ++ [e]) ++ []).Nodup := by have g9 := hndL; rw [eR] at g9; simpa using g9
                                obtain ⟨hnA2, hnB2, hdA2⟩ := List.nodup_append.mp hndF
                                have hMF : ∀ q, Ms j q ↔ q ∈ (A ++ [e]) ∨ q ∈ [] := fun q => (hM2_ q).trans (by rw [eR]; simp only [List.mem_append, List.mem_cons, List.not_mem_nil] <;> grind)
                                refine aw_aload (n := 311) dJ4_resize_309 1 rfl rfl ?_
                                refine aw_ifnull (n := 314) dJ4_resize_311 rfl ?_
                                refine aw_aload (n := 316) dJ4_resize_314 1 rfl rfl ?_
                                refine aw_null (n := 317) dJ4_resize_316 rfl ?_
                                refine aw_putK (n := 320) (fs' := [.int (κ e).1, .ref (κ e).2.1, .ref (κ e).2.2, va_rf none]) (C0 := RJ25) (T := TJ25) (N := 4) (ci := 26) dJ4_resize_317 rfl in_J25 tyJ25 tyJ25_ok nmJ25 q1541 3 (by decide) q1560 (Or.inl rfl) (Or.inl rfl) rfl (hC_53 e hMe).1 (hC_53 e hMe).2 rfl rfl (Nat.le_of_ble_eq_true rfl) rfl rfl (fun y_54 w_54 => ?_)
                                have zy_54 : y_54.1 = y_53.1 := w_54.2.2
                                have hC_54 := CPic.pnx (v := none) hC_53 w_54
                                refine aw_aload (n := 322) dJ4_resize_320 7 rfl rfl ?_
                                refine aw_iload (n := 324) dJ4_resize_322 6 rfl rfl ?_
                                refine aw_aload (n := 326) dJ4_resize_324 5 rfl rfl ?_
                                have f_55 : y_54.2 u_2 = some (har 5 (2 * n) f2) := (w_54.k (Ne.symm (hMo e hMe).2) (w_53.k (Ne.symm (hMo t1 ((hM2_ t1).mpr (Or.inl hmA))).2) (hF2.k (by omega) (fun z9 => (hMo _ z9).2 rfl) (w_7.k (Ne.symm (by omega)) hA2))))
                                refine aw_aastK (n := 327) (ti := 5) (N := (2 * n)) (f' := updV f2 j (.ref a1)) dJ4_resize_326 rfl j rfl f_55 bu_2 (by omega) (by omega) rfl (hC_54 a1 ((hM2_ a1).mpr (Or.inl hmA0))).1 (Or.inl rfl) rfl rfl (fun y_56 w_56 => ?_)
                                have zy_56 : y_56.1 = y_54.1 := w_56.2.2
                                have hC_w_56 := hC_54.w w_56 (fun x hx => (hMo x hx).2)
                                refine aw_aloadN (n := 329) dJ4_resize_327 3 rfl rfl ?_
                                refine aw_ifnullN (tgt := 347) dJ4_resize_329 (by decide) ?_
                                have hcA9 : chn (up (up nx1 t1 (some e)) e none) (some a1) (A ++ [e]) := ((hoA.snoc hnA).close hnA2)
                                have hcB9 : chn (up (up nx1 t1 (some e)) e none) none [] := (rfl : chn _ none [])
                                have hRB := resBin (sz := sz) (oA := (some a1)) (oB := none) hn2 hjl hK hMF (fun q m9 => by rcases List.mem_append.mp m9 with m8 | m8; exact hlA q m8; (have e9 := List.mem_singleton.mp m8; rw [e9]; exact c_249)) hlB hC_w_56 hcA9 hcB9 hndF (by have g9 := hln; rw [eR] at g9; simp only [List.length_nil, List.length_cons, List.length_append] at g9 ⊢; omega)
                                refine aw_iinc (n := 350) (v := nI (j + 1)) (lv' := [(7, .int (nI (j + 1))), (8, .null), (10, .ref e), (13, .null), (12, .null), (11, .null), (9, .ref a1), (6, .ref u_2), (4, .int (nI (2 * n))), (2, .int (nI n)), (1, .ref t), (0, .ref m)]) dJ4_resize_347 6 rfl (by rw [show nI j = nI j from rfl]; exact nI_1 _) (by decide) rfl rfl ?_
                                refine aw_goto (tgt := 151) dJ4_resize_350 (by decide) ?_
                                have f_57 : y_56.2 t = some (har 5 n (updV f1 j (.null))) := (w_56.k (by omega) (w_54.k (Ne.symm (hMo e hMe).1) (w_53.k (Ne.symm (hMo t1 ((hM2_ t1).mpr (Or.inl hmA))).1) (hF2.k (by omega) (fun z9 => (hMo _ z9).1 rfl) w_7.1))))
                                have f_58 : y_56.2 m = some (hob 25 [.null, .null, .ref u_2, .null, .int (nI sF), .int mc, .int (nI (3 * (2 * n) / 4)), lv]) := (w_56.k (ne_kind hm1 hA2 ob_ar) (w_54.k (fun e9 => (hMl j e hjl hMe).2.2 e9.symm) (w_53.k (fun e9 => (hMl j t1 hjl ((hM2_ t1).mpr (Or.inl hmA))).2.2 e9.symm) (hF2.k (by omega) (fun z9 => (hMl j m hjl z9).2.2 rfl) (w_7.k (ne_kind hm1 hA1 ob_ar) hm1)))))
                                have hFB : Fr (fun q => q = t ∨ q = u_2 ∨ Ms j q) hh y_56 := (Fr.w (Fr.w (Fr.w (Fr.c (Fr.w Fr.rf w_7 (Or.inl (Or.inl rfl))) hF2 (fun a9 z9 => Or.inl (Or.inr (Or.inr z9)))) w_53 (Or.inl (Or.inr (Or.inr ((hM2_ t1).mpr (Or.inl hmA)))))) w_54 (Or.inl (Or.inr (Or.inr hMe)))) w_56 (Or.inl (Or.inr (Or.inl rfl))))
                                have nu9 := (hI.1 j (Nat.le_refl _) hjl).2
                                have hfA : (updV f2 j (.ref a1)) j = va_rf (some a1) := by simp [updV, va_rf, nu9.1, hn0, show j ≠ j + n by omega]
                                have hfB : (updV f2 j (.ref a1)) (j + n) = va_rf none := by simp [updV, va_rf, nu9.2, hn0, show j + n ≠ j by omega]
                                have hI9 := rsI.go (h1 := y_56) (f3 := updV f2 j (.ref a1)) (PA := fun q => q ∈ ((A ++ [e]) : List Nat)) (PB := fun q => q ∈ ([] : List Nat)) hI hjl (fun i q hi2 hne hq => hFB.2 q (by have := (hMl i q hi2 hq).1; omega) (fun z9 => z9.elim (fun e9 => (hMl i q hi2 hq).2.1 e9) (fun z8 => z8.elim (fun e9 => by have := (hMl i q hi2 hq).1; omega) (fun m9 => hne (hDj i j q hi2 hjl hq m9))))) (fun i e1_ e2_ => by simp [updV, e1_, e2_]) (by rw [hfA]; exact hRB.1) (by rw [hfB]; exact hRB.2) (fun q m9 => (hMF q).mpr (Or.inl m9)) (fun q m9 => (hMF q).mpr (Or.inr m9))
                                exact AW.lvs (lv' := [(7, .int (nI (j + 1))), (6, .ref u_2), (4, .int (nI (2 * n))), (2, .int (nI n)), (1, .ref t), (0, .ref m)]) (AW.eq (lv2 := _) (rfl) rfl rfl rfl rfl (ih_151 y_56 (j + 1) (updV f1 j (.null)) (updV f2 j (.ref a1)) _ hjl f_57 (fun i hi2 => by have e9 := hE1 i (by omega); simp [updV, e9, show i ≠ j by omega]) w_56.1 f_58 hI9 (Fr.w (Fr.w (Fr.w (Fr.c (Fr.w hFc w_7 (Or.inl (Or.inr (Or.inl rfl)))) hF2 (fun a9 z9 => Or.inl (Or.inr (Or.inr ⟨j, hjl, z9⟩)))) w_53 (Or.inl (Or.inr (Or.inr ⟨j, hjl, ((hM2_ t1).mpr (Or.inl hmA))⟩)))) w_54 (Or.inl (Or.inr (Or.inr ⟨j, hjl, hMe⟩)))) w_56 (Or.inr (by omega))) (by omega) (by omega))) (by simp)
                            · skip
                              obtain ⟨R1, eR⟩ : ∃ R1, R = e237_44 :: R1 := by cases R with | nil => rw [hq_44] at hR2; cases hR2 | cons a9 L9 => exact ⟨L9, by have g9 := hR2.1; rw [hq_44] at g9; cases g9; rfl⟩
                              refine aw_getf (n := 240) (v := .ref e237_44) (C0 := RJ25) (T := TJ25) dJ4_resize_237 rfl 3 q1560 (Or.inl rfl) (hC2 e hMe).1 (congrArg (fun z9 => some (va_rf z9)) (show nx1 e = some e237_44 from by exact hq_44)) rfl ?_
                              refine aw_astore (n := 242) (lv' := [(13, .ref e237_44), (12, .null), (11, .null), (10, .ref t1), (9, .ref a1), (8, .ref e), (7, .int (nI j)), (6, .ref u_2), (4, .int (nI (2 * n))), (2, .int (nI n)), (1, .ref t), (0, .ref m)]) dJ4_resize_240 (by decide) rfl rfl ?_
                              refine aw_aload (n := 244) dJ4_resize_242 5 rfl rfl ?_
                              refine aw_getf (n := 247) (v := .int ((κ e).1)) (C0 := RJ25) (T := TJ25) dJ4_resize_244 rfl 0 q1549 (Or.inl rfl) (hC2 e hMe).1 rfl rfl ?_
                              refine aw_iload_n (n := 248) dJ4_resize_247 rfl 9 rfl rfl ?_
                              refine aw_iand (n := 249) dJ4_resize_248 rfl ?_
                              refine aw_if_ne (n := 252) (tgt := 278) dJ4_resize_249 (by decide) rfl (fun c_249_2 => ?_) (fun c_249_2 => ?_)
                              · skip
                                refine aw_aloadN (n := 280) dJ4_resize_278 1 rfl rfl ?_
                                refine aw_ifnonnullN (n := 283) dJ4_resize_280 rfl ?_
                                refine aw_aload (n := 285) dJ4_resize_283 5 rfl rfl ?_
                                refine aw_astore (n := 287) (lv' := [(11, .ref e), (13, .ref e237_44), (12, .null), (10, .ref t1), (9, .ref a1), (8, .ref e), (7, .int (nI j)), (6, .ref u_2), (4, .int (nI (2 * n))), (2, .int (nI n)), (1, .ref t), (0, .ref m)]) dJ4_resize_285 (by decide) rfl rfl ?_
                                refine aw_goto (tgt := 297) dJ4_resize_287 (by decide) ?_
                                refine aw_aload (n := 299) dJ4_resize_297 5 rfl rfl ?_
                                refine aw_astore (n := 301) (lv' := [(12, .ref e), (11, .ref e), (13, .ref e237_44), (10, .ref t1), (9, .ref a1), (8, .ref e), (7, .int (nI j)), (6, .ref u_2), (4, .int (nI (2 * n))), (2, .int (nI n)), (1, .ref t), (0, .ref m)]) dJ4_resize_299 (by decide) rfl rfl ?_
                                refine aw_aload (n := 303) dJ4_resize_301 2 rfl rfl ?_
                                refine aw_dup (n := 304) dJ4_resize_303 rfl rfl ?_
                                refine aw_astore (n := 306) (lv' := [(8, .ref e237_44), (12, .ref e), (11, .ref e), (13, .ref e237_44), (10, .ref t1), (9, .ref a1), (7, .int (nI j)), (6, .ref u_2), (4, .int (nI (2 * n))), (2, .int (nI n)), (1, .ref t), (0, .ref m)]) dJ4_resize_304 (by decide) rfl rfl ?_
                                refine aw_ifnonnull (tgt := 235) dJ4_resize_306 (by decide) ?_
                                have lR9 : R.length = R1.length + 1 := by rw [eR]; rfl
                                exact AW.lvs (lv' := [(12, .ref e), (11, .ref e), (10, .ref t1), (9, .ref a1), (8, .ref e237_44), (7, .int (nI j)), (6, .ref u_2), (4, .int (nI (2 * n))), (2, .int (nI n)), (1, .ref t), (0, .ref m)]) (AW.eq (lv2 := _) (rfl) rfl rfl rfl rfl (ih_235 h2 nx1 A [e] R1 e237_44 (some a1) (some t1) (some e) (some e) hC2 (by have g9 := hR2; rw [eR] at g9; exact g9.2) hoA och.one (fun q => (hM2_ q).trans (by rw [eR]; simp only [List.mem_append, List.mem_cons, List.not_mem_nil] <;> grind)) (by have g9 := hndH; rw [eR] at g9; simpa using g9) hlA (fun q m9 => by have e9 := List.mem_singleton.mp m9; rw [e9]; exact c_249_2) (by have g9 := hln; simp only [List.length_nil, List.length_cons, List.length_append] at g9 ⊢; omega) hF2 (by omega) (by omega))) (by simp)
                              · skip
                                refine aw_aload (n := 254) dJ4_resize_252 3 rfl rfl ?_
                                refine aw_ifnonnull (tgt := 264) dJ4_resize_254 (by decide) ?_
                                refine aw_aload (n := 266) dJ4_resize_264 3 rfl rfl ?_
                                refine aw_aload (n := 268) dJ4_resize_266 5 rfl rfl ?_
                                refine aw_putK (n := 271) (fs' := [.int (κ t1).1, .ref (κ t1).2.1, .ref (κ t1).2.2, va_rf (some e)]) (C0 := RJ25) (T := TJ25) (N := 4) (ci := 26) dJ4_resize_268 rfl in_J25 tyJ25 tyJ25_ok nmJ25 q1541 3 (by decide) q1560 (Or.inl rfl) (Or.inl rfl) rfl (hC2 t1 ((hM2_ t1).mpr (Or.inl hmA))).1 (hC2 t1 ((hM2_ t1).mpr (Or.inl hmA))).2 rfl rfl (Nat.le_of_ble_eq_true rfl) rfl rfl (fun y_59 w_59 => ?_)
                                have zy_59 : y_59.1 = h2.1 := w_59.2.2
                                have hC_59 := CPic.pnx (v := some e) hC2 w_59
                                refine aw_aload (n := 273) dJ4_resize_271 5 rfl rfl ?_
                                refine aw_astore (n := 275) (lv' := [(10, .ref e), (13, .ref e237_44), (12, .null), (11, .null), (9, .ref a1), (8, .ref e), (7, .int (nI j)), (6, .ref u_2), (4, .int (nI (2 * n))), (2, .int (nI n)), (1, .ref t), (0, .ref m)]) dJ4_resize_273 (by decide) rfl rfl ?_
                                refine aw_goto (tgt := 301) dJ4_resize_275 (by decide) ?_
                                refine aw_aload (n := 303) dJ4_resize_301 1 rfl rfl ?_
                                refine aw_dup (n := 304) dJ4_resize_303 rfl rfl ?_
                                refine aw_astore (n := 306) (lv' := [(8, .ref e237_44), (10, .ref e), (13, .ref e237_44), (12, .null), (11, .null), (9, .ref a1), (7, .int (nI j)), (6, .ref u_2), (4, .int (nI (2 * n))), (2, .int (nI n)), (1, .ref t), (0, .ref m)]) dJ4_resize_304 (by decide) rfl rfl ?_
                                refine aw_ifnonnull (tgt := 235) dJ4_resize_306 (by decide) ?_
                                have lR9 : R.length = R1.length + 1 := by rw [eR]; rfl
                                exact AW.lvs (lv' := [(12, .null), (11, .null), (10, .ref e), (9, .ref a1), (8, .ref e237_44), (7, .int (nI j)), (6, .ref u_2), (4, .int (nI (2 * n))), (2, .int (nI n)), (1, .ref t), (0, .ref m)]) (AW.eq (lv2 := _) (rfl) rfl rfl rfl rfl (ih_235 y_59 (up nx1 t1 (some e)) (A ++ [e]) [] R1 e237_44 (some a1) (some e) none none hC_59 (by have g9 := hR2; rw [eR] at g9; have g8 := nAR t1 hmA; rw [eR] at g8; rw [show up nx1 t1 (some e) e237_44 = nx1 e237_44 from (by unfold up; exact if_neg (fun e9 => g8 (by rw [← e9]; exact List.mem_cons_self)))]; exact chn.upd g9.2 (fun m9 => g8 (List.mem_cons_of_mem _ m9))) (hoA.snoc hnA) (hoB.upd (nAB t1 hmA)) (fun q => (hM2_ q).trans (by rw [eR]; simp only [List.mem_append, List.mem_cons, List.not_mem_nil] <;> grind)) (by have g9 := hndL; rw [eR] at g9; simpa using g9) (fun q m9 => by rcases List.mem_append.mp m9 with m8 | m8; exact hlA q m8; (have e9 := List.mem_singleton.mp m8; rw [e9]; exact c_249_2)) hlB (by have g9 := hln; simp only [List.length_nil, List.length_cons, List.length_append] at g9 ⊢; omega) (Fr.w hF2 w_59 (Or.inl ((hM2_ t1).mpr (Or.inl hmA)))) (by omega) (by omega))) (by simp)
                          · skip
                            refine AW.eq (lv2 := [(12, .ref t3), (11, .ref a3), (10, .ref t1), (9, .ref a1), (8, .ref e), (7, .int (nI j)), (6, .ref u_2), (4, .int (nI (2 * n))), (2, .int (nI n)), (1, .ref t), (0, .ref m)]) (s2 := []) rfl rfl rfl rfl rfl ?_
                            refine aw_aload (n := 237) dJ4_resize_235 4 rfl rfl ?_
                            rcases optc (nx1 e) with hq_60 | ⟨e237_60, hq_60⟩
                            · skip
                              have eR : R = [] := by cases h9 : R with | nil => rfl | cons a9 L9 => rw [h9, hq_60] at hR2; cases hR2.1
                              refine aw_getf (n := 240) (v := .null) (C0 := RJ25) (T := TJ25) dJ4_resize_237 rfl 3 q1560 (Or.inl rfl) (hC2 e hMe).1 (congrArg (fun z9 => some (va_rf z9)) (show nx1 e = none from by exact hq_60)) rfl ?_
                              refine aw_astoreN (n := 242) (lv' := [(13, .null), (12, .ref t3), (11, .ref a3), (10, .ref t1), (9, .ref a1), (8, .ref e), (7, .int (nI j)), (6, .ref u_2), (4, .int (nI (2 * n))), (2, .int (nI n)), (1, .ref t), (0, .ref m)]) dJ4_resize_240 (by decide) rfl rfl ?_
                              refine aw_aload (n := 244) dJ4_resize_242 5 rfl rfl ?_
                              refine aw_getf (n := 247) (v := .int ((κ e).1)) (C0 := RJ25) (T := TJ25) dJ4_resize_244 rfl 0 q1549 (Or.inl rfl) (hC2 e hMe).1 rfl rfl ?_
                              refine aw_iload_n (n := 248) dJ4_resize_247 rfl 9 rfl rfl ?_
                              refine aw_iand (n := 249) dJ4_resize_248 rfl ?_
                              refine aw_if_ne (n := 252) (tgt := 278) dJ4_resize_249 (by decide) rfl (fun c_249 => ?_) (fun c_249 => ?_)
                              · skip
                                refine aw_aload (n := 280) dJ4_resize_278 1 rfl rfl ?_
                                refine aw_ifnonnull (tgt := 290) dJ4_resize_280 (by decide) ?_
                                refine aw_aload (n := 292) dJ4_resize_290 1 rfl rfl ?_
                                refine aw_aload (n := 294) dJ4_resize_292 5 rfl rfl ?_
                                refine aw_putK (n := 297) (fs' := [.int (κ t3).1, .ref (κ t3).2.1, .ref (κ t3).2.2, va_rf (some e)]) (C0 := RJ25) (T := TJ25) (N := 4) (ci := 26) dJ4_resize_294 rfl in_J25 tyJ25 tyJ25_ok nmJ25 q1541 3 (by decide) q1560 (Or.inl rfl) (Or.inl rfl) rfl (hC2 t3 ((hM2_ t3).mpr (Or.inr (Or.inl hmB)))).1 (hC2 t3 ((hM2_ t3).mpr (Or.inr (Or.inl hmB)))).2 rfl rfl (Nat.le_of_ble_eq_true rfl) rfl rfl (fun y_61 w_61 => ?_)
                                have zy_61 : y_61.1 = h2.1 := w_61.2.2
                                have hC_61 := CPic.pnx (v := some e) hC2 w_61
                                refine aw_aload (n := 299) dJ4_resize_297 5 rfl rfl ?_
                                refine aw_astore (n := 301) (lv' := [(12, .ref e), (13, .null), (11, .ref a3), (10, .ref t1), (9, .ref a1), (8, .ref e), (7, .int (nI j)), (6, .ref u_2), (4, .int (nI (2 * n))), (2, .int (nI n)), (1, .ref t), (0, .ref m)]) dJ4_resize_299 (by decide) rfl rfl ?_
                                refine aw_aloadN (n := 303) dJ4_resize_301 1 rfl rfl ?_
                                refine aw_dup (n := 304) dJ4_resize_303 rfl rfl ?_
                                refine aw_astoreN (n := 306) (lv' := [(8, .null), (12, .ref e), (13, .null), (11, .ref a3), (10, .ref t1), (9, .ref a1), (7, .int (nI j)), (6, .ref u_2), (4, .int (nI (2 * n))), (2, .int (nI n)), (1, .ref t), (0, .ref m)]) dJ4_resize_304 (by decide) rfl rfl ?_
                                refine aw_ifnonnullN (n := 309) dJ4_resize_306 rfl ?_
                                have hndF : (A ++ (B ++ [e])).Nodup := by have g9 := hndH; rw [eR] at g9; simpa using g9
                                obtain ⟨hnA2, hnB2, hdA2⟩ := List.nodup_append.mp hndF
                                have hMF : ∀ q, Ms j q ↔ q ∈ A ∨ q ∈ (B ++ [e]) := fun q => (hM2_ q).trans (by rw [eR]; simp only [List.mem_append, List.mem_cons, List.not_mem_nil] <;> grind)
                                refine aw_aload (n := 311) dJ4_resize_309 4 rfl rfl ?_
                                refine aw_ifnull (n := 314) dJ4_resize_311 rfl ?_
                                refine aw_aload (n := 316) dJ4_resize_314 4 rfl rfl ?_
                                refine aw_null (n := 317) dJ4_resize_316 rfl ?_
                                refine aw_putK (n := 320) (fs' := [.int (κ t1).1, .ref (κ t1).2.1, .ref (κ t1).2.2, va_rf none]) (C0 := RJ25) (T := TJ25) (N := 4) (ci := 26) dJ4_resize_317 rfl in_J25 tyJ25 tyJ25_ok nmJ25 q1541 3 (by decide) q1560 (Or.inl rfl) (Or.inl rfl) rfl (hC_61 t1 ((hM2_ t1).mpr (Or.inl hmA))).1 (hC_61 t1 ((hM2_ t1).mpr (Or.inl hmA))).2 rfl rfl (Nat.le_of_ble_eq_true rfl) rfl rfl (fun y_62 w_62 => ?_)
                                have zy_62 : y_62.1 = y_61.1 := w_62.2.2
                                have hC_62 := CPic.pnx (v := none) hC_61 w_62
                                refine aw_aload (n := 322) dJ4_resize_320 7 rfl rfl ?_
                                refine aw_iload (n := 324) dJ4_resize_322 6 rfl rfl ?_
                                refine aw_aload (n := 326) dJ4_resize_324 5 rfl rfl ?_
                                have f_63 : y_62.2 u_2 = some (har 5 (2 * n) f2) := (w_62.k (Ne.symm (hMo t1 ((hM2_ t1).mpr (Or.inl hmA))).2) (w_61.k (Ne.symm (hMo t3 ((hM2_ t3).mpr (Or.inr (Or.inl hmB)))).2) (hF2.k (by omega) (fun z9 => (hMo _ z9).2 rfl) (w_7.k (Ne.symm (by omega)) hA2))))
                                refine aw_aastK (n := 327) (ti := 5) (N := (2 * n)) (f' := updV f2 j (.ref a1)) dJ4_resize_326 rfl j rfl f_63 bu_2 (by omega) (by omega) rfl (hC_62 a1 ((hM2_ a1).mpr (Or.inl hmA0))).1 (Or.inl rfl) rfl rfl (fun y_64 w_64 => ?_)
                                have zy_64 : y_64.1 = y_62.1 := w_64.2.2
                                have hC_w_64 := hC_62.w w_64 (fun x hx => (hMo x hx).2)
                                refine aw_aload (n := 329) dJ4_resize_327 1 rfl rfl ?_
                                refine aw_ifnull (n := 332) dJ4_resize_329 rfl ?_
                                refine aw_aload (n := 334) dJ4_resize_332 1 rfl rfl ?_
                                refine aw_null (n := 335) dJ4_resize_334 rfl ?_
                                refine aw_putK (n := 338) (fs' := [.int (κ e).1, .ref (κ e).2.1, .ref (κ e).2.2, va_rf none]) (C0 := RJ25) (T := TJ25) (N := 4) (ci := 26) dJ4_resize_335 rfl in_J25 tyJ25 tyJ25_ok nmJ25 q1541 3 (by decide) q1560 (Or.inl rfl) (Or.inl rfl) rfl (hC_w_64 e hMe).1 (hC_w_64 e hMe).2 rfl rfl (Nat.le_of_ble_eq_true rfl) rfl rfl (fun y_65 w_65 => ?_)
                                have zy_65 : y_65.1 = y_64.1 := w_65.2.2
                                have hC_65 := CPic.pnx (v := none) hC_w_64 w_65
                                refine aw_aload (n := 340) dJ4_resize_338 7 rfl rfl ?_
                                refine aw_iload (n := 342) dJ4_resize_340 6 rfl rfl ?_
                                refine aw_iload_n (n := 343) dJ4_resize_342 rfl 9 rfl rfl ?_
                                refine aw_iadd (n := 344) dJ4_resize_343 rfl ?_
                                refine aw_aload (n := 346) dJ4_resize_344 3 rfl rfl ?_
                                have f_66 : y_65.2 u_2 = some (har 5 (2 * n) (updV f2 j (.ref a1))) := (w_65.k (Ne.symm (hMo e hMe).2) w_64.1)
                                refine aw_aastK (n := 347) (ti := 5) (N := (2 * n)) (f' := updV (updV f2 j (.ref a1)) (j + n) (.ref a3)) dJ4_resize_346 rfl (j + n) (by rw [show (nI j : Int32) = nI j from rfl, show (nI n : Int32) = nI n from rfl]; exact nI_add _ _) f_66 bu_2 (by omega) (by omega) rfl (hC_65 a3 ((hM2_ a3).mpr (Or.inr (Or.inl hmB0)))).1 (Or.inl rfl) rfl rfl (fun y_67 w_67 => ?_)
                                have zy_67 : y_67.1 = y_65.1 := w_67.2.2
                                have hC_w_67 := hC_65.w w_67 (fun x hx => (hMo x hx).2)
                                have hcA9 : chn (up (up (up nx1 t3 (some e)) t1 none) e none) (some a1) A := (chn.upd ((hoA.upd (fun m9 => nAB t3 m9 hmB)).close hnA2) (fun m9 => hdA2 e m9 e (by first | exact hmB | exact List.mem_singleton.mpr rfl | exact List.mem_append_right _ (List.mem_singleton.mpr rfl)) rfl))
                                have hcB9 : chn (up (up (up nx1 t3 (some e)) t1 none) e none) (some a3) (B ++ [e]) := (((hoB.snoc hnB).upd (fun m9 => hdA2 t1 (by first | exact hmA | exact List.mem_singleton.mpr rfl | exact List.mem_append_right _ (List.mem_singleton.mpr rfl)) t1 m9 rfl)).close hnB2)
                                have hRB := resBin (sz := sz) (oA := (some a1)) (oB := (some a3)) hn2 hjl hK hMF hlA (fun q m9 => by rcases List.mem_append.mp m9 with m8 | m8; exact hlB q m8; (have e9 := List.mem_singleton.mp m8; rw [e9]; exact c_249)) hC_w_67 hcA9 hcB9 hndF (by have g9 := hln; rw [eR] at g9; simp only [List.length_nil, List.length_cons, List.length_append] at g9 ⊢; omega)
                                refine aw_iinc (n := 350) (v := nI (j + 1)) (lv' := [(7, .int (nI (j + 1))), (8, .null), (12, .ref e), (13, .null), (11, .ref a3), (10, .ref t1), (9, .ref a1), (6, .ref u_2), (4, .int (nI (2 * n))), (2, .int (nI n)), (1, .ref t), (0, .ref m)]) dJ4_resize_347 6 rfl (by rw [show nI j = nI j from rfl]; exact nI_1 _) (by decide) rfl rfl ?_
                                refine aw_goto (tgt := 151) dJ4_resize_350 (by decide) ?_
                                have f_68 : y_67.2 t = some (har 5 n (updV f1 j (.null))) := (w_67.k (by omega) (w_65.k (Ne.symm (hMo e hMe).1) (w_64.k (by omega) (w_62.k (Ne.symm (hMo t1 ((hM2_ t1).mpr (Or.inl hmA))).1) (w_61.k (Ne.symm (hMo t3 ((hM2_ t3).mpr (Or.inr (Or.inl hmB)))).1) (hF2.k (by omega) (fun z9 => (hMo _ z9).1 rfl) w_7.1))))))
                                have f_69 : y_67.2 m = some (hob 25 [.null, .null, .ref u_2, .null, .int (nI sF), .int mc, .int (nI (3 * (2 * n) / 4)), lv]) := (w_67.k (ne_kind hm1 hA2 ob_ar) (w_65.k (fun e9 => (hMl j e hjl hMe).2.2 e9.symm) (w_64.k (ne_kind hm1 hA2 ob_ar) (w_62.k (fun e9 => (hMl j t1 hjl ((hM2_ t1).mpr (Or.inl hmA))).2.2 e9.symm) (w_61.k (fun e9 => (hMl j t3 hjl ((hM2_ t3).mpr (Or.inr (Or.inl hmB)))).2.2 e9.symm) (hF2.k (by omega) (fun z9 => (hMl j m hjl z9).2.2 rfl) (w_7.k (ne_kind hm1 hA1 ob_ar) hm1)))))))
                                have hFB : Fr (fun q => q = t ∨ q = u_2 ∨ Ms j q) hh y_67 := (Fr.w (Fr.w (Fr.w (Fr.w (Fr.w (Fr.c (Fr.w Fr.rf w_7 (Or.inl (Or.inl rfl))) hF2 (fun a9 z9 => Or.inl (Or.inr (Or.inr z9)))) w_61 (Or.inl (Or.inr (Or.inr ((hM2_ t3).mpr (Or.inr (Or.inl hmB))))))) w_62 (Or.inl (Or.inr (Or.inr ((hM2_ t1).mpr (Or.inl hmA)))))) w_64 (Or.inl (Or.inr (Or.inl rfl)))) w_65 (Or.inl (Or.inr (Or.inr hMe)))) w_67 (Or.inl (Or.inr (Or.inl rfl))))
                                have nu9 := (hI.1 j (Nat.le_refl _) hjl).2
                                have hfA : (updV (updV f2 j (.ref a1)) (j + n) (.ref a3)) j = va_rf (some a1) := by simp [updV, va_rf, nu9.1, hn0, show j ≠ j + n by omega]
                                have hfB : (updV (updV f2 j (.ref a1)) (j + n) (.ref a3)) (j + n) = va_rf (some a3) := by simp [updV, va_rf, nu9.2, hn0, show j + n ≠ j by omega]
                                have hI9 := rsI.go (h1 := y_67) (f3 := updV (updV f2 j (.ref a1)) (j + n) (.ref a3)) (PA := fun q => q ∈ (A : List Nat)) (PB := fun q => q ∈ ((B ++ [e]) : List Nat)) hI hjl (fun i q hi2 hne hq => hFB.2 q (by have := (hMl i q hi2 hq).1; omega) (fun z9 => z9.elim (fun e9 => (hMl i q hi2 hq).2.1 e9) (fun z8 => z8.elim (fun e9 => by have := (hMl i q hi2 hq).1; omega) (fun m9 => hne (hDj i j q hi2 hjl hq m9))))) (fun i e1_ e2_ => by simp [updV, e1_, e2_]) (by rw [hfA]; exact hRB.1) (by rw [hfB]; exact hRB.2) (fun q m9 => (hMF q).mpr (Or.inl m9)) (fun q m9 => (hMF q).mpr (Or.inr m9))
                                exact AW.lvs (lv' := [(7, .int (nI (j + 1))), (6, .ref u_2), (4, .int (nI (2 * n))), (2, .int (nI n)), (1, .ref t), (0, .ref m)]) (AW.eq (lv2 := _) (rfl) rfl rfl rfl rfl (ih_151 y_67 (j + 1) (updV f1 j (.null)) (updV (updV f2 j (.ref a1)) (j + n) (.ref a3)) _ hjl f_68 (fun i hi2 => by have e9 := hE1 i (by omega); simp [updV, e9, show i ≠ j by omega]) w_67.1 f_69 hI9 (Fr.w (Fr.w (Fr.w (Fr.w (Fr.w (Fr.c (Fr.w hFc w_7 (Or.inl (Or.inr (Or.inl rfl)))) hF2 (fun a9 z9 => Or.inl (Or.inr (Or.inr ⟨j, hjl, z9⟩)))) w_61 (Or.inl (Or.inr (Or.inr ⟨j, hjl, ((hM2_ t3).mpr (Or.inr (Or.inl hmB)))⟩)))) w_62 (Or.inl (Or.inr (Or.inr ⟨j, hjl, ((hM2_ t1).mpr (Or.inl hmA))⟩)))) w_64 (Or.inr (by omega))) w_65 (Or.inl (Or.inr (Or.inr ⟨j, hjl, hMe⟩)))) w_67 (Or.inr (by omega))) (by omega) (by omega))) (by simp)
                              · skip
                                refine aw_aload (n := 254) dJ4_resize_252 3 rfl rfl ?_
                                refine aw_ifnonnull (tgt := 264) dJ4_resize_254 (by decide) ?_
                                refine aw_aload (n := 266) dJ4_resize_264 3 rfl rfl ?_
                                refine aw_aload (n := 268) dJ4_resize_266 5 rfl rfl ?_
                                refine aw_putK (n := 271) (fs' := [.int (κ t1).1, .ref (κ t1).2.1, .ref (κ t1).2.2, va_rf (some e)]) (C0 := RJ25) (T := TJ25) (N := 4) (ci := 26) dJ4_resize_268 rfl in_J25 tyJ25 tyJ25_ok nmJ25 q1541 3 (by decide) q1560 (Or.inl rfl) (Or.inl rfl) rfl (hC2 t1 ((hM2_ t1).mpr (Or.inl hmA))).1 (hC2 t1 ((hM2_ t1).mpr (Or.inl hmA))).2 rfl rfl (Nat.le_of_ble_eq_true rfl) rfl rfl (fun y_70 w_70 => ?_)
                                have zy_70 : y_70.1 = h2.1 := w_70.2.2
                                have hC_70 := CPic.pnx (v := some e) hC2 w_70
                                refine aw_aload (n := 273) dJ4_resize_271 5 rfl rfl ?_
                                refine aw_astore (n := 275) (lv' := [(10, .ref e), (13, .null), (12, .ref t3), (11, .ref a3), (9, .ref a1), (8, .ref e), (7, .int (nI j)), (6, .ref u_2), (4, .int (nI (2 * n))), (2, .int (nI n)), (1, .ref t), (0, .ref m)]) dJ4_resize_273 (by decide) rfl rfl ?_
                                refine aw_goto (tgt := 301) dJ4_resize_275 (by decide) ?_
                                refine aw_aloadN (n := 303) dJ4_resize_301 1 rfl rfl ?_
                                refine aw_dup (n := 304) dJ4_resize_303 rfl rfl ?_
                                refine aw_astoreN (n := 306) (lv' := [(8, .null), (10, .ref e), (13, .null), (12, .ref t3), (11, .ref a3), (9, .ref a1), (7, .int (nI j)), (6, .ref u_2), (4, .int (nI (2 * n))), (2, .int (nI n)), (1, .ref t), (0, .ref m)]) dJ4_resize_304 (by decide) rfl rfl ?_
                                refine aw_ifnonnullN (n := 309) dJ4_resize_306 rfl ?_
                                have hndF : ((A ++ [e]) ++ B).Nodup := by have g9 := hndL; rw [eR] at g9; simpa using g9
                                obtain ⟨hnA2, hnB2, hdA2⟩ := List.nodup_append.mp hndF
                                have hMF : ∀ q, Ms j q ↔ q ∈ (A ++ [e]) ∨ q ∈ B := fun q => (hM2_ q).trans (by rw [eR]; simp only [List.mem_append, List.mem_cons, List.not_mem_nil] <;> grind)
                                refine aw_aload (n := 311) dJ4_resize_309 1 rfl rfl ?_
                                refine aw_ifnull (n := 314) dJ4_resize_311 rfl ?_
                                refine aw_aload (n := 316) dJ4_resize_314 1 rfl rfl ?_
                                refine aw_null (n := 317) dJ4_resize_316 rfl ?_
                                refine aw_putK (n := 320) (fs' := [.int (κ e).1, .ref (κ e).2.1, .ref (κ e).2.2, va_rf none]) (C0 := RJ25) (T := TJ25) (N := 4) (ci := 26) dJ4_resize_317 rfl in_J25 tyJ25 tyJ25_ok nmJ25 q1541 3 (by decide) q1560 (Or.inl rfl) (Or.inl rfl) rfl (hC_70 e hMe).1 (hC_70 e hMe).2 rfl rfl (Nat.le_of_ble_eq_true rfl) rfl rfl (fun y_71 w_71 => ?_)
                                have zy_71 : y_71.1 = y_70.1 := w_71.2.2
                                have hC_71 := CPic.pnx (v := none) hC_70 w_71
                                refine aw_aload (n := 322) dJ4_resize_320 7 rfl rfl ?_
                                refine aw_iload (n := 324) dJ4_resize_322 6 rfl rfl ?_
                                refine aw_aload (n := 326) dJ4_resize_324 5 rfl rfl ?_
                                have f_72 : y_71.2 u_2 = some (har 5 (2 * n) f2) := (w_71.k (Ne.symm (hMo e hMe).2) (w_70.k (Ne.symm (hMo t1 ((hM2_ t1).mpr (Or.inl hmA))).2) (hF2.k (by omega) (fun z9 => (hMo _ z9).2 rfl) (w_7.k (Ne.symm (by omega)) hA2))))
                                refine aw_aastK (n := 327) (ti := 5) (N := (2 * n)) (f' := updV f2 j (.ref a1)) dJ4_resize_326 rfl j rfl f_72 bu_2 (by omega) (by omega) rfl (hC_71 a1 ((hM2_ a1).mpr (Or.inl hmA0))).1 (Or.inl rfl) rfl rfl (fun y_73 w_73 => ?_)
                                have zy_73 : y_73.1 = y_71.1 := w_73.2.2
                                have hC_w_73 := hC_71.w w_73 (fun x hx => (hMo x hx).2)
                                refine aw_aload (n := 329) dJ4_resize_327 3 rfl rfl ?_
                                refine aw_ifnull (n := 332) dJ4_resize_329 rfl ?_
                                refine aw_aload (n := 334) dJ4_resize_332 3 rfl rfl ?_
                                refine aw_null (n := 335) dJ4_resize_334 rfl ?_
                                refine aw_putK (n := 338) (fs' := [.int (κ t3).1, .ref (κ t3).2.1, .ref (κ t3).2.2, va_rf none]) (C0 := RJ25) (T := TJ25) (N := 4) (ci := 26) dJ4_resize_335 rfl in_J25 tyJ25 tyJ25_ok nmJ25 q1541 3 (by decide) q1560 (Or.inl rfl) (Or.inl rfl) rfl (hC_w_73 t3 ((hM2_ t3).mpr (Or.inr (Or.inl hmB)))).1 (hC_w_73 t3 ((hM2_ t3).mpr (Or.inr (Or.inl hmB)))).2 rfl rfl (Nat.le_of_ble_eq_true rfl) rfl rfl (fun y_74 w_74 => ?_)
                                have zy_74 : y_74.1 = y_73.1 := w_74.2.2
                                have hC_74 := CPic.pnx (v := none) hC_w_73 w_74
                                refine aw_aload (n := 340) dJ4_resize_338 7 rfl rfl ?_
                                refine aw_iload (n := 342) dJ4_resize_340 6 rfl rfl ?_
                                refine aw_iload_n (n := 343) dJ4_resize_342 rfl 9 rfl rfl ?_
                                refine aw_iadd (n := 344) dJ4_resize_343 rfl ?_
                                refine aw_aload (n := 346) dJ4_resize_344 4 rfl rfl ?_
                                have f_75 : y_74.2 u_2 = some (har 5 (2 * n) (updV f2 j (.ref a1))) := (w_74.k (Ne.symm (hMo t3 ((hM2_ t3).mpr (Or.inr (Or.inl hmB)))).2) w_73.1)
                                refine aw_aastK (n := 347) (ti := 5) (N := (2 * n)) (f' := updV (updV f2 j (.ref a1)) (j + n) (.ref a3)) dJ4_resize_346 rfl (j + n) (by rw [show (nI j : Int32) = nI j from rfl, show (nI n : Int32) = nI n from rfl]; exact nI_add _ _) f_75 bu_2 (by omega) (by omega) rfl (hC_74 a3 ((hM2_ a3).mpr (Or.inr (Or.inl hmB0)))).1 (Or.inl rfl) rfl rfl (fun y_76 w_76 => ?_)
                                have zy_76 : y_76.1 = y_74.1 := w_76.2.2
                                have hC_w_76 := hC_74.w w_76 (fun x hx => (hMo x hx).2)
                                have hcA9 : chn (up (up (up nx1 t1 (some e)) e none) t3 none) (some a1) (A ++ [e]) := (chn.upd ((hoA.snoc hnA).close hnA2) (fun m9 => hdA2 t3 m9 t3 (by first | exact hmB | exact List.mem_singleton.mpr rfl | exact List.mem_append_right _ (List.mem_singleton.mpr rfl)) rfl))
                                have hcB9 : chn (up (up (up nx1 t1 (some e)) e none) t3 none) (some a3) B := (((hoB.upd (nAB t1 hmA)).upd (fun m9 => hdA2 e (by first | exact hmA | exact List.mem_singleton.mpr rfl | exact List.mem_append_right _ (List.mem_singleton.mpr rfl)) e m9 rfl)).close hnB2)
                                have hRB := resBin (sz := sz) (oA := (some a1)) (oB := (some a3)) hn2 hjl hK hMF (fun q m9 => by rcases List.mem_append.mp m9 with m8 | m8; exact hlA q m8; (have e9 := List.mem_singleton.mp m8; rw [e9]; exact c_249)) hlB hC_w_76 hcA9 hcB9 hndF (by have g9 := hln; rw [eR] at g9; simp only [List.length_nil, List.length_cons, List.length_append] at g9 ⊢; omega)
                                refine aw_iinc (n := 350) (v := nI (j + 1)) (lv' := [(7, .int (nI (j + 1))), (8, .null), (10, .ref e), (13, .null), (12, .ref t3), (11, .ref a3), (9, .ref a1), (6, .ref u_2), (4, .int (nI (2 * n))), (2, .int (nI n)), (1, .ref t), (0, .ref m)]) dJ4_resize_347 6 rfl (by rw [show nI j = nI j from rfl]; exact nI_1 _) (by decide) rfl rfl ?_
                                refine aw_goto (tgt := 151) dJ4_resize_350 (by decide) ?_
                                have f_77 : y_76.2 t = some (har 5 n (updV f1 j (.null))) := (w_76.k (by omega) (w_74.k (Ne.symm (hMo t3 ((hM2_ t3).mpr (Or.inr (Or.inl hmB)))).1) (w_73.k (by omega) (w_71.k (Ne.symm (hMo e hMe).1) (w_70.k (Ne.symm (hMo t1 ((hM2_ t1).mpr (Or.inl hmA))).1) (hF2.k (by omega) (fun z9 => (hMo _ z9).1 rfl) w_7.1))))))
                                have f_78 : y_76.2 m = some (hob 25 [.null, .null, .ref u_2, .null, .int (nI sF), .int mc, .int (nI (3 * (2 * n) / 4)), lv]) := (w_76.k (ne_kind hm1 hA2 ob_ar) (w_74.k (fun e9 => (hMl j t3 hjl ((hM2_ t3).mpr (Or.inr (Or.inl hmB)))).2.2 e9.symm) (w_73.k (ne_kind hm1 hA2 ob_ar) (w_71.k (fun e9 => (hMl j e hjl hMe).2.2 e9.symm) (w_70.k (fun e9 => (hMl j t1 hjl ((hM2_ t1).mpr (Or.inl hmA))).2.2 e9.symm) (hF2.k (by omega) (fun z9 => (hMl j m hjl z9).2.2 rfl) (w_7.k (ne_kind hm1 hA1 ob_ar) hm1)))))))
                                have hFB : Fr (fun q => q = t ∨ q = u_2 ∨ Ms j q) hh y_76 := (Fr.w (Fr.w (Fr.w (Fr.w (Fr.w (Fr.c (Fr.w Fr.rf w_7 (Or.inl (Or.inl rfl))) hF2 (fun a9 z9 => Or.inl (Or.inr (Or.inr z9)))) w_70 (Or.inl (Or.inr (Or.inr ((hM2_ t1).mpr (Or.inl hmA)))))) w_71 (Or.inl (Or.inr (Or.inr hMe)))) w_73 (Or.inl (Or.inr (Or.inl rfl)))) w_74 (Or.inl (Or.inr (Or.inr ((hM2_ t3).mpr (Or.inr (Or.inl hmB))))))) w_76 (Or.inl (Or.inr (Or.inl rfl))))
                                have nu9 := (hI.1 j (Nat.le_refl _) hjl).2
                                have hfA : (updV (updV f2 j (.ref a1)) (j + n) (.ref a3)) j = va_rf (some a1) := by simp [updV, va_rf, nu9.1, hn0, show j ≠ j + n by omega]
                                have hfB : (updV (updV f2 j (.ref a1)) (j + n) (.ref a3)) (j + n) = va_rf (some a3) := by simp [updV, va_rf, nu9.2, hn0, show j + n ≠ j by omega]
                                have hI9 := rsI.go (h1 := y_76) (f3 := updV (updV f2 j (.ref a1)) (j + n) (.ref a3)) (PA := fun q => q ∈ ((A ++ [e]) : List Nat)) (PB := fun q => q ∈ (B : List Nat)) hI hjl (fun i q hi2 hne hq => hFB.2 q (by have := (hMl i q hi2 hq).1; omega) (fun z9 => z9.elim (fun e9 => (hMl i q hi2 hq).2.1 e9) (fun z8 => z8.elim (fun e9 => by have := (hMl i q hi2 hq).1; omega) (fun m9 => hne (hDj i j q hi2 hjl hq m9))))) (fun i e1_ e2_ => by simp [updV, e1_, e2_]) (by rw [hfA]; exact hRB.1) (by rw [hfB]; exact hRB.2) (fun q m9 => (hMF q).mpr (Or.inl m9)) (fun q m9 => (hMF q).mpr (Or.inr m9))
                                exact AW.lvs (lv' := [(7, .int (nI (j + 1))), (6, .ref u_2), (4, .int (nI (2 * n))), (2, .int (nI n)), (1, .ref t), (0, .ref m)]) (AW.eq (lv2 := _) (rfl) rfl rfl rfl rfl (ih_151 y_76 (j + 1) (updV f1 j (.null)) (updV (updV f2 j (.ref a1)) (j + n) (.ref a3)) _ hjl f_77 (fun i hi2 => by have e9 := hE1 i (by omega); simp [updV, e9, show i ≠ j by omega]) w_76.1 f_78 hI9 (Fr.w (Fr.w (Fr.w (Fr.w (Fr.w (Fr.c (Fr.w hFc w_7 (Or.inl (Or.inr (Or.inl rfl)))) hF2 (fun a9 z9 => Or.inl (Or.inr (Or.inr ⟨j, hjl, z9⟩)))) w_70 (Or.inl (Or.inr (Or.inr ⟨j, hjl, ((hM2_ t1).mpr (Or.inl hmA))⟩)))) w_71 (Or.inl (Or.inr (Or.inr ⟨j, hjl, hMe⟩)))) w_73 (Or.inr (by omega))) w_74 (Or.inl (Or.inr (Or.inr ⟨j, hjl, ((hM2_ t3).mpr (Or.inr (Or.inl hmB)))⟩)))) w_76 (Or.inr (by omega))) (by omega) (by omega))) (by simp)
                            · skip
                              obtain ⟨R1, eR⟩ : ∃ R1, R = e237_60 :: R1 := by cases R with | nil => rw [hq_60] at hR2; cases hR2 | cons a9 L9 => exact ⟨L9, by have g9 := hR2.1; rw [hq_60] at g9; cases g9; rfl⟩
                              refine aw_getf (n := 240) (v := .ref e237_60) (C0 := RJ25) (T := TJ25) dJ4_resize_237 rfl 3 q1560 (Or.inl rfl) (hC2 e hMe).1 (congrArg (fun z9 => some (va_rf z9)) (show nx1 e = some e237_60 from by exact hq_60)) rfl ?_
                              refine aw_astore (n := 242) (lv' := [(13, .ref e237_60), (12, .ref t3), (11, .ref a3), (10, .ref t1), (9, .ref a1), (8, .ref e), (7, .int (nI j)), (6, .ref u_2), (4, .int (nI (2 * n))), (2, .int (nI n)), (1, .ref t), (0, .ref m)]) dJ4_resize_240 (by decide) rfl rfl ?_
                              refine aw_aload (n := 244) dJ4_resize_242 5 rfl rfl ?_
                              refine aw_getf (n := 247) (v := .int ((κ e).1)) (C0 := RJ25) (T := TJ25) dJ4_resize_244 rfl 0 q1549 (Or.inl rfl) (hC2 e hMe).1 rfl rfl ?_
                              refine aw_iload_n (n := 248) dJ4_resize_247 rfl 9 rfl rfl ?_
                              refine aw_iand (n := 249) dJ4_resize_248 rfl ?_
                              refine aw_if_ne (n := 252) (tgt := 278) dJ4_resize_249 (by decide) rfl (fun c_249_2 => ?_) (fun c_249_2 => ?_)
                              · skip
                                refine aw_aload (n := 280) dJ4_resize_278 1 rfl rfl ?_
                                refine aw_ifnonnull (tgt := 290) dJ4_resize_280 (by decide) ?_
                                refine aw_aload (n := 292) dJ4_resize_290 1 rfl rfl ?_
                                refine aw_aload (n := 294) dJ4_resize_292 5 rfl rfl ?_
                                refine aw_putK (n := 297) (fs' := [.int (κ t3).1, .ref (κ t3).2.1, .ref (κ t3).2.2, va_rf (some e)]) (C0 := RJ25) (T := TJ25) (N := 4) (ci := 26) dJ4_resize_294 rfl in_J25 tyJ25 tyJ25_ok nmJ25 q1541 3 (by decide) q1560 (Or.inl rfl) (Or.inl rfl) rfl (hC2 t3 ((hM2_ t3).mpr (Or.inr (Or.inl hmB)))).1 (hC2 t3 ((hM2_ t3).mpr (Or.inr (Or.inl hmB)))).2 rfl rfl (Nat.le_of_ble_eq_true rfl) rfl rfl (fun y_79 w_79 => ?_)
                                have zy_79 : y_79.1 = h2.1 := w_79.2.2
                                have hC_79 := CPic.pnx (v := some e) hC2 w_79
                                refine aw_aload (n := 299) dJ4_resize_297 5 rfl rfl ?_
                                refine aw_astore (n := 301) (lv' := [(12, .ref e), (13, .ref e237_60), (11, .ref a3), (10, .ref t1), (9, .ref a1), (8, .ref e), (7, .int (nI j)), (6, .ref u_2), (4, .int (nI (2 * n))), (2, .int (nI n)), (1, .ref t), (0, .ref m)]) dJ4_resize_299 (by decide) rfl rfl ?_
                                refine aw_aload (n := 303) dJ4_resize_301 1 rfl rfl ?_
                                refine aw_dup (n := 304) dJ4_resize_303 rfl rfl ?_
                                refine aw_astore (n := 306) (lv' := [(8, .ref e237_60), (12, .ref e), (13, .ref e237_60), (11, .ref a3), (10, .ref t1), (9, .ref a1), (7, .int (nI j)), (6, .ref u_2), (4, .int (nI (2 * n))), (2, .int (nI n)), (1, .ref t), (0, .ref m)]) dJ4_resize_304 (by decide) rfl rfl ?_
                                refine aw_ifnonnull (tgt := 235) dJ4_resize_306 (by decide) ?_
                                have lR9 : R.length = R1.length + 1 := by rw [eR]; rfl
                                exact AW.lvs (lv' := [(12, .ref e), (11, .ref a3), (10, .ref t1), (9, .ref a1), (8, .ref e237_60), (7, .int (nI j)), (6, .ref u_2), (4, .int (nI (2 * n))), (2, .int (nI n)), (1, .ref t), (0, .ref m)]) (AW.eq (lv2 := _) (rfl) rfl rfl rfl rfl (ih_235 y_79 (up nx1 t3 (some e)) A (B ++ [e]) R1 e237_60 (some a1) (some t1) (some a3) (some e) hC_79 (by have g9 := hR2; rw [eR] at g9; have g8 := nBR t3 hmB; rw [eR] at g8; rw [show up nx1 t3 (some e) e237_60 = nx1 e237_60 from (by unfold up; exact if_neg (fun e9 => g8 (by rw [← e9]; exact List.mem_cons_self)))]; exact chn.upd g9.2 (fun m9 => g8 (List.mem_cons_of_mem _ m9))) (hoA.upd (fun m9 => nAB t3 m9 hmB)) (hoB.snoc hnB) (fun q => (hM2_ q).trans (by rw [eR]; simp only [List.mem_append, List.mem_cons, List.not_mem_nil] <;> grind)) (by have g9 := hndH; rw [eR] at g9; simpa using g9) hlA (fun q m9 => by rcases List.mem_append.mp m9 with m8 | m8; exact hlB q m8; (have e9 := List.mem_singleton.mp m8; rw [e9]; exact c_249_2)) (by have g9 := hln; simp only [List.length_nil, List.length_cons, List.length_append] at g9 ⊢; omega) (Fr.w hF2 w_79 (Or.inl ((hM2_ t3).mpr (Or.inr (Or.inl hmB))))) (by omega) (by omega))) (by simp)
                              · skip
                                refine aw_aload (n := 254) dJ4_resize_252 3 rfl rfl ?_
                                refine aw_ifnonnull (tgt := 264) dJ4_resize_254 (by decide) ?_
                                refine aw_aload (n := 266) dJ4_resize_264 3 rfl rfl ?_
                                refine aw_aload (n := 268) dJ4_resize_266 5 rfl rfl ?_
                                refine aw_putK (n := 271) (fs' := [.int (κ t1).1, .ref (κ t1).2.1, .ref (κ t1).2.2, va_rf (some e)]) (C0 := RJ25) (T := TJ25) (N := 4) (ci := 26) dJ4_resize_268 rfl in_J25 tyJ25 tyJ25_ok nmJ25 q1541 3 (by decide) q1560 (Or.inl rfl) (Or.inl rfl) rfl (hC2 t1 ((hM2_ t1).mpr (Or.inl hmA))).1 (hC2 t1 ((hM2_ t1).mpr (Or.inl hmA))).2 rfl rfl (Nat.le_of_ble_eq_true rfl) rfl rfl (fun y_80 w_80 => ?_)
                                have zy_80 : y_80.1 = h2.1 := w_80.2.2
                                have hC_80 := CPic.pnx (v := some e) hC2 w_80
                                refine aw_aload (n := 273) dJ4_resize_271 5 rfl rfl ?_
                                refine aw_astore (n := 275) (lv' := [(10, .ref e), (13, .ref e237_60), (12, .ref t3), (11, .ref a3), (9, .ref a1), (8, .ref e), (7, .int (nI j)), (6, .ref u_2), (4, .int (nI (2 * n))), (2, .int (nI n)), (1, .ref t), (0, .ref m)]) dJ4_resize_273 (by decide) rfl rfl ?_
                                refine aw_goto (tgt := 301) dJ4_resize_275 (by decide) ?_
                                refine aw_aload (n := 303) dJ4_resize_301 1 rfl rfl ?_
                                refine aw_dup (n := 304) dJ4_resize_303 rfl rfl ?_
                                refine aw_astore (n := 306) (lv' := [(8, .ref e237_60), (10, .ref e), (13, .ref e237_60), (12, .ref t3), (11, .ref a3), (9, .ref a1), (7, .int (nI j)), (6, .ref u_2), (4, .int (nI (2 * n))), (2, .int (nI n)), (1, .ref t), (0, .ref m)]) dJ4_resize_304 (by decide) rfl rfl ?_
                                refine aw_ifnonnull (tgt := 235) dJ4_resize_306 (by decide) ?_
                                have lR9 : R.length = R1.length + 1 := by rw [eR]; rfl
                                exact AW.lvs (lv' := [(12, .ref t3), (11, .ref a3), (10, .ref e), (9, .ref a1), (8, .ref e237_60), (7, .int (nI j)), (6, .ref u_2), (4, .int (nI (2 * n))), (2, .int (nI n)), (1, .ref t), (0, .ref m)]) (AW.eq (lv2 := _) (rfl) rfl rfl rfl rfl (ih_235 y_80 (up nx1 t1 (some e)) (A ++ [e]) B R1 e237_60 (some a1) (some e) (some a3) (some t3) hC_80 (by have g9 := hR2; rw [eR] at g9; have g8 := nAR t1 hmA; rw [eR] at g8; rw [show up nx1 t1 (some e) e237_60 = nx1 e237_60 from (by unfold up; exact if_neg (fun e9 => g8 (by rw [← e9]; exact List.mem_cons_self)))]; exact chn.upd g9.2 (fun m9 => g8 (List.mem_cons_of_mem _ m9))) (hoA.snoc hnA) (hoB.upd (nAB t1 hmA)) (fun q => (hM2_ q).trans (by rw [eR]; simp only [List.mem_append, List.mem_cons, List.not_mem_nil] <;> grind)) (by have g9 := hndL; rw [eR] at g9; simpa using g9) (fun q m9 => by rcases List.mem_append.mp m9 with m8 | m8; exact hlA q m8; (have e9 := List.mem_singleton.mp m8; rw [e9]; exact c_249_2)) hlB (by have g9 := hln; simp only [List.length_nil, List.length_cons, List.length_append] at g9 ⊢; omega) (Fr.w hF2 w_80 (Or.inl ((hM2_ t1).mpr (Or.inl hmA)))) (by omega) (by omega))) (by simp)
                    · skip
                      exact absurd c_203 (by decide +kernel)
          · skip
            have n_87 : (3 * (2 * n) / 4) = 0 := (nI_eq (a := (3 * (2 * n) / 4)) (b := 0) (by omega) (by omega)).mp (by rw [← ((by rfl) : (0 : Int32) = nI 0)]; exact c_87)
            exfalso; omega
    · skip
      have n_31 : ¬ (n < 1073741824) := fun z => c_31 (by have y := (nI_ltI (a := n) (b := 1073741824) (by omega) (by omega)).mpr z; rw [← ((by rfl) : (1073741824 : Int32) = nI 1073741824)] at y; exact y)
      exfalso; omega

end
