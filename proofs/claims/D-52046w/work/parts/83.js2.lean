/-! Arrays.copyOfRange, copyOf of bytes; String.substring. -/
section
set_option maxRecDepth 100000
abbrev kJ16_checkLength : aK := (yJ16_checkLength, cJ16_checkLength, 2, (Option.none : Option Jvm.ClassFile.FieldType), [])
theorem hcJ16_checkLength : kJ16_checkLength.1.cls ≠ "java/lang/invoke/MethodHandle" ∧ kJ16_checkLength.1.cls ≠ "java/lang/invoke/VarHandle" ∧ (parseMethodDescriptor kJ16_checkLength.1.desc).map (fun d => d.parameters.length) = some 2 := ⟨by decide, by decide, by decide +kernel⟩
theorem cs_chkL (G : aG) (h : hH) (b e : Nat) (hbe : b ≤ e) (he : e ≤ 4000) : Con G kJ16_checkLength [.int (nI b), .int (nI e)] h ((1, 0, 0, 0), (fun r h1 => r = none ∧ h = h1), nX) := by
  refine Con.of (plainFor_of_name rfl) rfl (Nat.le_of_ble_eq_true rfl) ?_
  refine AW.eq (lv2 := [(0, .int (nI b)), (1, .int (nI e))]) (s2 := []) rfl rfl rfl rfl rfl ?_
  refine aw_iload_n (n := 1) dJ16_checkLength_0 rfl 1 rfl rfl ?_
  refine aw_iload_n (n := 2) dJ16_checkLength_1 rfl 0 rfl rfl ?_
  refine aw_icmp_ge (n := 5) (tgt := 37) dJ16_checkLength_2 (by decide) rfl (fun c_2 => ?_) (fun c_2 => ?_)
  · skip
    have n_2 : b ≤ e := (nI_leI (a := b) (b := e) (by omega) (by omega)).mp (by exact c_2)
    exact aw_vret dJ16_checkLength_37 rfl ⟨rfl, rfl⟩ ⟨Nat.zero_le _, Nat.zero_le _⟩
  · skip
    have n_2 : ¬ (b ≤ e) := fun z => c_2 (by have y := (nI_leI (a := b) (b := e) (by omega) (by omega)).mpr z; exact y)
    exfalso; omega

abbrev kJ16_copyOfRangeByte : aK := (yJ16_copyOfRangeByte, cJ16_copyOfRangeByte, 5, (Option.some (Jvm.ClassFile.FieldType.array Jvm.ClassFile.FieldType.byte)), [])
theorem hcJ16_copyOfRangeByte : kJ16_copyOfRangeByte.1.cls ≠ "java/lang/invoke/MethodHandle" ∧ kJ16_copyOfRangeByte.1.cls ≠ "java/lang/invoke/VarHandle" ∧ (parseMethodDescriptor kJ16_copyOfRangeByte.1.desc).map (fun d => d.parameters.length) = some 3 := ⟨by decide, by decide, by decide +kernel⟩
theorem cs_crb (G : aG) (h : hH) (v n b e : Nat) (f : Nat → Value) (hV : h.2 v = some (har 2 n f)) (hft : ∀ j, j < n → fits .byte (f j) = true) (hn : n ≤ 4000) (hbe : b ≤ e) (hen : e ≤ n) : Con G kJ16_copyOfRangeByte [.ref v, .int (nI b), .int (nI e)] h ((2, 60, 1, e - b), (fun r h1 => ∃ (x : Nat) (g : Nat → Value), r = some (.ref x) ∧ gB G ≤ x ∧ x = h.1 ∧ h1.2 x = some (har 2 (e - b) g) ∧ (∀ j, j < e - b → g j = f (b + j)) ∧ Fr nS h h1 ∧ h1.1 = h.1 + 1), nX) := by
  have hm9 : min (n - b) (e - b) = e - b := Nat.min_eq_right (by omega)
  refine Con.of (plainFor_of_name rfl) rfl (Nat.le_of_ble_eq_true rfl) ?_
  refine AW.eq (lv2 := [(0, .ref v), (1, .int (nI b)), (2, .int (nI e))]) (s2 := []) rfl rfl rfl rfl rfl ?_
  refine aw_know (fun gd hi => ?_)
  have lt_v : v < h.1 := hi.2.1 _ _ hV
  refine aw_iload_n (n := 1) dJ16_copyOfRangeByte_0 rfl 1 rfl rfl ?_
  refine aw_iload_n (n := 2) dJ16_copyOfRangeByte_1 rfl 2 rfl rfl ?_
  refine aw_callS (n := 5) (As := [.int (nI b), .int (nI e)]) (rest := []) (K2 := kJ16_checkLength) dJ16_copyOfRangeByte_2 q485 q486 q126 q487 hcJ16_checkLength (cs_chkL G h b e hbe (by omega)) rfl (Nat.le_of_ble_eq_true rfl) ⟨Nat.le_of_ble_eq_true rfl, Nat.le_of_ble_eq_true rfl⟩ ⟨by first | omega | (dsimp only; omega) | decide, by first | omega | (dsimp only; omega) | decide⟩ (fun _ _ _ z => z.elim) rfl (fun r_2 h_2 q_2 => ?_)
  obtain ⟨rfl, rfl⟩ := q_2
  refine AW.sts (st' := []) rfl ?_
  refine aw_iload_n (n := 6) dJ16_copyOfRangeByte_5 rfl 2 rfl rfl ?_
  refine aw_iload_n (n := 7) dJ16_copyOfRangeByte_6 rfl 1 rfl rfl ?_
  refine aw_isub (n := 8) dJ16_copyOfRangeByte_7 rfl ?_
  refine AW.sts (st' := [.int (nI (e - b))]) (by rw [show (nI e) - (nI b) = nI (e - b) from (by rw [show (nI e) = nI e from rfl, show (nI b) = nI b from rfl]; exact pk_sub (by omega))]) ?_
  refine aw_istore_n (n := 9) (lv' := [(3, .int (nI (e - b))), (0, .ref v), (1, .int (nI b)), (2, .int (nI e))]) dJ16_copyOfRangeByte_8 rfl (by decide) rfl rfl ?_
  refine aw_iload_n (n := 10) dJ16_copyOfRangeByte_9 rfl 0 rfl rfl ?_
  refine aw_newaK (n := 12) (ti := 2) (N := (e - b)) (v := .int 0) dJ16_copyOfRangeByte_10 rfl rfl rfl q212 rfl rfl (by first | decide | (show _ * _ ≤ _; omega) | (simp only [componentBytes]; omega)) (by first | decide | omega) (by first | omega | (dsimp only; omega) | decide) (by first | omega | (dsimp only; omega) | decide) rfl (by first | rfl | omega) (by first | rfl | omega) (fun y_1 u_1 bu_1 w_1 => ?_)
  have eu_1 : u_1 = h.1 := w_1.2.2.1
  have zy_1 : y_1.1 = u_1 + 1 := w_1.2.2.2
  refine aw_astore (n := 14) (lv' := [(4, .ref u_1), (3, .int (nI (e - b))), (0, .ref v), (1, .int (nI b)), (2, .int (nI e))]) dJ16_copyOfRangeByte_12 (by decide) rfl rfl ?_
  refine aw_aload_n (n := 15) dJ16_copyOfRangeByte_14 rfl 2 rfl rfl ?_
  refine aw_iload_n (n := 16) dJ16_copyOfRangeByte_15 rfl 3 rfl rfl ?_
  refine aw_aload (n := 18) dJ16_copyOfRangeByte_16 0 rfl rfl ?_
  refine aw_iconst (n := 19) (v := 0) dJ16_copyOfRangeByte_18 (by decide) rfl ?_
  refine aw_aload_n (n := 20) dJ16_copyOfRangeByte_19 rfl 2 rfl rfl ?_
  have f_2 : y_1.2 v = some (har 2 n f) := (w_1.k (by omega) hV)
  refine aw_alen (n := 21) (v := nI n) dJ16_copyOfRangeByte_20 rfl f_2 rfl rfl ?_
  refine aw_iload_n (n := 22) dJ16_copyOfRangeByte_21 rfl 3 rfl rfl ?_
  refine aw_isub (n := 23) dJ16_copyOfRangeByte_22 rfl ?_
  refine aw_iload_n (n := 24) dJ16_copyOfRangeByte_23 rfl 1 rfl rfl ?_
  refine AW.sts (st' := [.int (nI (e - b)), .int (nI (n - b)), .int 0, .ref u_1, .int (nI b), .ref v]) (by rw [show (nI n) - (nI b) = nI (n - b) from (by rw [show (nI n) = nI n from rfl, show (nI b) = nI b from rfl]; exact pk_sub (by omega))]) ?_
  refine aw_callS (n := 27) (As := [.int (nI (n - b)), .int (nI (e - b))]) (rest := [.int 0, .ref u_1, .int (nI b), .ref v]) (K2 := kJ15_min) dJ16_copyOfRangeByte_24 q393 q394 q125 q395 hcJ15_min (cj_minI G y_1 (nI (n - b)) (nI (e - b))) rfl (Nat.le_of_ble_eq_true rfl) ⟨Nat.le_of_ble_eq_true rfl, Nat.le_of_ble_eq_true rfl⟩ ⟨by first | omega | (dsimp only; omega) | decide, by first | omega | (dsimp only; omega) | decide⟩ (fun _ _ _ z => z.elim) rfl (fun r_24 h_24 q_24 => ?_)
  obtain ⟨rfl, rfl⟩ := q_24
  refine AW.sts (st' := [.int (nI (min (n - b) (e - b))), .int 0, .ref u_1, .int (nI b), .ref v]) (by rw [nI_min (by first | decide | omega) (by first | decide | omega)]; rfl) ?_
  refine AW.sts (st' := [.int (nI (min (n - b) (e - b))), .int (nI 0), .ref u_1, .int (nI b), .ref v]) (by rw [show (0 : Int32) = nI 0 from (by rfl)]) ?_
  refine aw_acopyK (n := 30) (sp := b) (dp := 0) (c0 := (min (n - b) (e - b))) (f' := cpF f (fun _ => .int 0) b 0 (min (n - b) (e - b))) dJ16_copyOfRangeByte_27 q396 q398 q397 q127 rfl rfl f_2 w_1.1 bu_1 (by have := Nat.min_le_left (n - b) (e - b); omega) (by have := Nat.min_le_right (n - b) (e - b); omega) (by omega) (by omega) hft (Nat.le_of_ble_eq_true rfl) ⟨Nat.le_of_ble_eq_true rfl, Nat.le_of_ble_eq_true rfl⟩ rfl rfl (fun y_3 w_3 => ?_)
  have zy_3 : y_3.1 = y_1.1 := w_3.2.2
  refine aw_aload (n := 32) dJ16_copyOfRangeByte_30 0 rfl rfl ?_
  exact aw_aret dJ16_copyOfRangeByte_32 rfl (Or.inr ⟨_, rfl⟩) (Or.inr ⟨_, rfl⟩) ⟨u_1, _, rfl, bu_1, by omega, w_3.1, fun j hj => by simp only [cpF]; rw [if_pos ⟨by omega, by rw [Nat.zero_add]; exact Nat.lt_of_lt_of_le hj (by omega)⟩]; rw [Nat.sub_zero], (Fr.w (Fr.n Fr.rf w_1) w_3 (Or.inr (by omega))), by omega⟩ ⟨(by first | exact Nat.le_refl _ | omega | (dsimp only; omega)), (by first | exact Nat.le_refl _ | omega | (dsimp only; omega))⟩

abbrev kJ16_copyOfRange : aK := (yJ16_copyOfRange, cJ16_copyOfRange, 3, (Option.some (Jvm.ClassFile.FieldType.array Jvm.ClassFile.FieldType.byte)), [])
theorem hcJ16_copyOfRange : kJ16_copyOfRange.1.cls ≠ "java/lang/invoke/MethodHandle" ∧ kJ16_copyOfRange.1.cls ≠ "java/lang/invoke/VarHandle" ∧ (parseMethodDescriptor kJ16_copyOfRange.1.desc).map (fun d => d.parameters.length) = some 3 := ⟨by decide, by decide, by decide +kernel⟩
theorem cs_cr (G : aG) (h : hH) (v n b e : Nat) (f : Nat → Value) (hV : h.2 v = some (har 2 n f)) (hft : ∀ j, j < n → fits .byte (f j) = true) (hn : n ≤ 4000) (hbe : b ≤ e) (hen : e ≤ n) : Con G kJ16_copyOfRange [.ref v, .int (nI b), .int (nI e)] h ((3, 84, 1, e - b), (fun r h1 => ∃ (x : Nat) (g : Nat → Value), r = some (.ref x) ∧ gB G ≤ x ∧ x = h.1 ∧ h1.2 x = some (har 2 (e - b) g) ∧ (∀ j, j < e - b → g j = f (b + j)) ∧ Fr nS h h1 ∧ h1.1 = h.1 + 1), nX) := by
  refine Con.of (plainFor_of_name rfl) rfl (Nat.le_of_ble_eq_true rfl) ?_
  refine AW.eq (lv2 := [(0, .ref v), (1, .int (nI b)), (2, .int (nI e))]) (s2 := []) rfl rfl rfl rfl rfl ?_
  refine aw_know (fun gd hi => ?_)
  have lt_v : v < h.1 := hi.2.1 _ _ hV
  refine aw_iload_n (n := 1) dJ16_copyOfRange_0 rfl 1 rfl rfl ?_
  refine aw_if_ne (n := 4) (tgt := 10) dJ16_copyOfRange_1 (by decide) rfl (fun c_1 => ?_) (fun c_1 => ?_)
  · skip
    have n_1 : ¬ (b = 0) := fun z => c_1 (by have y := (nI_eq (a := b) (b := 0) (by omega) (by omega)).mpr z; rw [← ((by rfl) : (0 : Int32) = nI 0)] at y; exact y)
    refine aw_aload_n (n := 11) dJ16_copyOfRange_10 rfl 0 rfl rfl ?_
    refine aw_iload_n (n := 12) dJ16_copyOfRange_11 rfl 1 rfl rfl ?_
    refine aw_iload_n (n := 13) dJ16_copyOfRange_12 rfl 2 rfl rfl ?_
    refine aw_callS (n := 16) (As := [.ref v, .int (nI b), .int (nI e)]) (rest := []) (K2 := kJ16_copyOfRangeByte) dJ16_copyOfRange_13 q482 q483 q126 q484 hcJ16_copyOfRangeByte (cs_crb G h v n b e f hV hft hn hbe hen) rfl (Nat.le_of_ble_eq_true rfl) ⟨Nat.le_of_ble_eq_true rfl, Nat.le_of_ble_eq_true rfl⟩ ⟨by first | omega | (dsimp only; omega) | decide, by first | omega | (dsimp only; omega) | decide⟩ (fun _ _ _ z => z.elim) rfl (fun r_13 h_13 q_13 => ?_)
    obtain ⟨x_13, g_13, rfl, b_13, lx_13, hX_13, hg_13, hF_13, zz_13⟩ := q_13
    have zc_13 : h.1 ≤ h_13.1 := hF_13.1
    refine AW.sts (st' := [.ref x_13]) rfl ?_
    exact aw_aret dJ16_copyOfRange_16 rfl (Or.inr ⟨_, rfl⟩) (Or.inr ⟨_, rfl⟩) ⟨x_13, g_13, rfl, b_13, lx_13, hX_13, hg_13, hF_13, zz_13⟩ ⟨(by first | exact Nat.le_refl _ | omega | (dsimp only; omega)), (by first | exact Nat.le_refl _ | omega | (dsimp only; omega))⟩
  · skip
    have n_1 : b = 0 := (nI_eq (a := b) (b := 0) (by omega) (by omega)).mp (by rw [← ((by rfl) : (0 : Int32) = nI 0)]; exact c_1)
    refine aw_iload_n (n := 5) dJ16_copyOfRange_4 rfl 2 rfl rfl ?_
    refine aw_aload_n (n := 6) dJ16_copyOfRange_5 rfl 0 rfl rfl ?_
    refine aw_alen (n := 7) (v := nI n) dJ16_copyOfRange_6 rfl hV rfl rfl ?_
    refine aw_icmp_eq (n := 10) (tgt := 17) dJ16_copyOfRange_7 (by decide) rfl (fun c_7 => ?_) (fun c_7 => ?_)
    · skip
      have n_7 : e = n := (nI_eq (a := e) (b := n) (by omega) (by omega)).mp (by exact c_7)
      refine aw_aload_n (n := 18) dJ16_copyOfRange_17 rfl 0 rfl rfl ?_
      refine aw_clone (n := 21) (ti := 2) (N := n) dJ16_copyOfRange_18 q386 q387 q388 q389 q390 q391 rfl rfl hV hft ⟨Nat.le_of_ble_eq_true rfl, Nat.le_of_ble_eq_true rfl⟩ (by first | omega | (dsimp only; omega) | decide) (by first | omega | (dsimp only; omega) | decide) rfl (by first | rfl | omega) (by first | rfl | omega) (fun y_1 u_1 bu_1 w_1 => ?_)
      have eu_1 : u_1 = h.1 := w_1.2.2.1
      have zy_1 : y_1.1 = u_1 + 1 := w_1.2.2.2
      refine aw_castA (n := 24) dJ16_copyOfRange_21 q392 (Or.inr ⟨_, _, _, _, w_1.1, rfl, rfl⟩) (Or.inl rfl) rfl ?_
      exact aw_aret dJ16_copyOfRange_24 rfl (Or.inr ⟨_, rfl⟩) (Or.inr ⟨_, rfl⟩) ⟨u_1, f, rfl, bu_1, by omega, by have e9 : e - b = n := (by omega); rw [e9]; exact w_1.1, fun j hj => by rw [show b + j = j by omega], (Fr.n Fr.rf w_1), by omega⟩ ⟨(by first | exact Nat.le_refl _ | omega | (dsimp only; omega)), (by first | exact Nat.le_refl _ | omega | (dsimp only; omega))⟩
    · skip
      have n_7 : ¬ (e = n) := fun z => c_7 (by have y := (nI_eq (a := e) (b := n) (by omega) (by omega)).mpr z; exact y)
      refine aw_aload_n (n := 11) dJ16_copyOfRange_10 rfl 0 rfl rfl ?_
      refine aw_iload_n (n := 12) dJ16_copyOfRange_11 rfl 1 rfl rfl ?_
      refine aw_iload_n (n := 13) dJ16_copyOfRange_12 rfl 2 rfl rfl ?_
      refine aw_callS (n := 16) (As := [.ref v, .int (nI b), .int (nI e)]) (rest := []) (K2 := kJ16_copyOfRangeByte) dJ16_copyOfRange_13 q482 q483 q126 q484 hcJ16_copyOfRangeByte (cs_crb G h v n b e f hV hft hn hbe hen) rfl (Nat.le_of_ble_eq_true rfl) ⟨Nat.le_of_ble_eq_true rfl, Nat.le_of_ble_eq_true rfl⟩ ⟨by first | omega | (dsimp only; omega) | decide, by first | omega | (dsimp only; omega) | decide⟩ (fun _ _ _ z => z.elim) rfl (fun r_13 h_13 q_13 => ?_)
      obtain ⟨x_13, g_13, rfl, b_13, lx_13, hX_13, hg_13, hF_13, zz_13⟩ := q_13
      have zc_13 : h.1 ≤ h_13.1 := hF_13.1
      refine AW.sts (st' := [.ref x_13]) rfl ?_
      exact aw_aret dJ16_copyOfRange_16 rfl (Or.inr ⟨_, rfl⟩) (Or.inr ⟨_, rfl⟩) ⟨x_13, g_13, rfl, b_13, lx_13, hX_13, hg_13, hF_13, zz_13⟩ ⟨(by first | exact Nat.le_refl _ | omega | (dsimp only; omega)), (by first | exact Nat.le_refl _ | omega | (dsimp only; omega))⟩

abbrev kJ16_copyOf : aK := (yJ16_copyOf, cJ16_copyOf, 3, (Option.some (Jvm.ClassFile.FieldType.array Jvm.ClassFile.FieldType.byte)), [])
theorem hcJ16_copyOf : kJ16_copyOf.1.cls ≠ "java/lang/invoke/MethodHandle" ∧ kJ16_copyOf.1.cls ≠ "java/lang/invoke/VarHandle" ∧ (parseMethodDescriptor kJ16_copyOf.1.desc).map (fun d => d.parameters.length) = some 2 := ⟨by decide, by decide, by decide +kernel⟩
theorem cs_cob (G : aG) (h : hH) (v n m : Nat) (f : Nat → Value) (hV : h.2 v = some (har 2 n f)) (hft : ∀ j, j < n → fits .byte (f j) = true) (hn : n < m) (hm : m ≤ 40000) : Con G kJ16_copyOf [.ref v, .int (nI m)] h ((2, 60, 1, m), (fun r h1 => ∃ (x : Nat) (g : Nat → Value), r = some (.ref x) ∧ gB G ≤ x ∧ x = h.1 ∧ h1.2 x = some (har 2 m g) ∧ (∀ j, j < n → g j = f j) ∧ (∀ j, j < m → fits .byte (g j) = true) ∧ Fr nS h h1 ∧ h1.1 = h.1 + 1), nX) := by
  have hm9 : min n m = n := Nat.min_eq_left (by omega)
  refine Con.of (plainFor_of_name rfl) rfl (Nat.le_of_ble_eq_true rfl) ?_
  refine AW.eq (lv2 := [(0, .ref v), (1, .int (nI m))]) (s2 := []) rfl rfl rfl rfl rfl ?_
  refine aw_know (fun gd hi => ?_)
  have lt_v : v < h.1 := hi.2.1 _ _ hV
  refine aw_iload_n (n := 1) dJ16_copyOf_0 rfl 1 rfl rfl ?_
  refine aw_aload_n (n := 2) dJ16_copyOf_1 rfl 0 rfl rfl ?_
  refine aw_alen (n := 3) (v := nI n) dJ16_copyOf_2 rfl hV rfl rfl ?_
  refine aw_icmp_ne (n := 6) (tgt := 14) dJ16_copyOf_3 (by decide) rfl (fun c_3 => ?_) (fun c_3 => ?_)
  · skip
    have n_3 : ¬ (m = n) := fun z => c_3 (by have y := (nI_eq (a := m) (b := n) (by omega) (by omega)).mpr z; exact y)
    refine aw_iload_n (n := 15) dJ16_copyOf_14 rfl 1 rfl rfl ?_
    refine aw_newaK (n := 17) (ti := 2) (N := m) (v := .int 0) dJ16_copyOf_15 rfl rfl rfl q212 rfl rfl (by first | decide | (show _ * _ ≤ _; omega) | (simp only [componentBytes]; omega)) (by first | decide | omega) (by first | omega | (dsimp only; omega) | decide) (by first | omega | (dsimp only; omega) | decide) rfl (by first | rfl | omega) (by first | rfl | omega) (fun y_1 u_1 bu_1 w_1 => ?_)
    have eu_1 : u_1 = h.1 := w_1.2.2.1
    have zy_1 : y_1.1 = u_1 + 1 := w_1.2.2.2
    refine aw_astore_n (n := 18) (lv' := [(2, .ref u_1), (0, .ref v), (1, .int (nI m))]) dJ16_copyOf_17 rfl (by decide) rfl rfl ?_
    refine aw_aload_n (n := 19) dJ16_copyOf_18 rfl 1 rfl rfl ?_
    refine aw_iconst (n := 20) (v := 0) dJ16_copyOf_19 (by decide) rfl ?_
    refine aw_aload_n (n := 21) dJ16_copyOf_20 rfl 0 rfl rfl ?_
    refine aw_iconst (n := 22) (v := 0) dJ16_copyOf_21 (by decide) rfl ?_
    refine aw_aload_n (n := 23) dJ16_copyOf_22 rfl 1 rfl rfl ?_
    have f_2 : y_1.2 v = some (har 2 n f) := (w_1.k (by omega) hV)
    refine aw_alen (n := 24) (v := nI n) dJ16_copyOf_23 rfl f_2 rfl rfl ?_
    refine aw_iload_n (n := 25) dJ16_copyOf_24 rfl 2 rfl rfl ?_
    refine aw_callS (n := 28) (As := [.int (nI n), .int (nI m)]) (rest := [.int 0, .ref u_1, .int 0, .ref v]) (K2 := kJ15_min) dJ16_copyOf_25 q393 q394 q125 q395 hcJ15_min (cj_minI G y_1 (nI n) (nI m)) rfl (Nat.le_of_ble_eq_true rfl) ⟨Nat.le_of_ble_eq_true rfl, Nat.le_of_ble_eq_true rfl⟩ ⟨by first | omega | (dsimp only; omega) | decide, by first | omega | (dsimp only; omega) | decide⟩ (fun _ _ _ z => z.elim) rfl (fun r_25 h_25 q_25 => ?_)
    obtain ⟨rfl, rfl⟩ := q_25
    refine AW.sts (st' := [.int (nI (min n m)), .int 0, .ref u_1, .int 0, .ref v]) (by rw [nI_min (by first | decide | omega) (by first | decide | omega)]; rfl) ?_
    refine AW.sts (st' := [.int (nI (min n m)), .int (nI 0), .ref u_1, .int 0, .ref v]) (by rw [show (0 : Int32) = nI 0 from (by rfl)]) ?_
    refine AW.sts (st' := [.int (nI (min n m)), .int (nI 0), .ref u_1, .int (nI 0), .ref v]) (by rw [show (0 : Int32) = nI 0 from (by rfl)]) ?_
    refine aw_acopyK (n := 31) (sp := 0) (dp := 0) (c0 := (min n m)) (f' := cpF f (fun _ => .int 0) 0 0 (min n m)) dJ16_copyOf_28 q396 q398 q397 q127 rfl rfl f_2 w_1.1 bu_1 (by omega) (by omega) (by omega) (by omega) hft (Nat.le_of_ble_eq_true rfl) ⟨Nat.le_of_ble_eq_true rfl, Nat.le_of_ble_eq_true rfl⟩ rfl rfl (fun y_3 w_3 => ?_)
    have zy_3 : y_3.1 = y_1.1 := w_3.2.2
    refine aw_aload_n (n := 32) dJ16_copyOf_31 rfl 0 rfl rfl ?_
    exact aw_aret dJ16_copyOf_32 rfl (Or.inr ⟨_, rfl⟩) (Or.inr ⟨_, rfl⟩) ⟨u_1, _, rfl, bu_1, by omega, w_3.1, fun j hj => by simp only [cpF]; rw [if_pos ⟨by omega, by omega⟩]; congr 1; omega, fun j hj => by simp only [cpF]; split; exact hft _ (by omega); rfl, (Fr.w (Fr.n Fr.rf w_1) w_3 (Or.inr (by omega))), by omega⟩ ⟨(by first | exact Nat.le_refl _ | omega | (dsimp only; omega)), (by first | exact Nat.le_refl _ | omega | (dsimp only; omega))⟩
  · skip
    have n_3 : m = n := (nI_eq (a := m) (b := n) (by omega) (by omega)).mp (by exact c_3)
    exfalso; omega

abbrev kJ18_checkFromToIndex : aK := (yJ18_checkFromToIndex, cJ18_checkFromToIndex, 4, (Option.some Jvm.ClassFile.FieldType.int), [])
theorem hcJ18_checkFromToIndex : kJ18_checkFromToIndex.1.cls ≠ "java/lang/invoke/MethodHandle" ∧ kJ18_checkFromToIndex.1.cls ≠ "java/lang/invoke/VarHandle" ∧ (parseMethodDescriptor kJ18_checkFromToIndex.1.desc).map (fun d => d.parameters.length) = some 4 := ⟨by decide, by decide, by decide +kernel⟩
theorem cs_cftN (G : aG) (h : hH) (b e n : Nat) (hbe : b ≤ e) (hen : e ≤ n) (hn : n < 2 ^ 31) : Con G kJ18_checkFromToIndex [.int (nI b), .int (nI e), .int (nI n), .null] h ((1, 0, 0, 0), (fun r h1 => r = some (.int (nI b)) ∧ h = h1), nX) := by
  refine Con.of (plainFor_of_name rfl) rfl (Nat.le_of_ble_eq_true rfl) ?_
  refine AW.eq (lv2 := [(0, .int (nI b)), (1, .int (nI e)), (2, .int (nI n)), (3, .null)]) (s2 := []) rfl rfl rfl rfl rfl ?_
  refine aw_iload_n (n := 1) dJ18_checkFromToIndex_0 rfl 0 rfl rfl ?_
  refine aw_if_lt (n := 4) (tgt := 14) dJ18_checkFromToIndex_1 (by decide) rfl (fun c_1 => ?_) (fun c_1 => ?_)
  · skip
    have n_1 : b < 0 := (nI_ltI (a := b) (b := 0) (by omega) (by omega)).mp (by rw [← ((by rfl) : (0 : Int32) = nI 0)]; exact c_1)
    exact absurd c_1 (nI_pos (by omega))
  · skip
    have n_1 : ¬ (b < 0) := fun z => c_1 (by have y := (nI_ltI (a := b) (b := 0) (by omega) (by omega)).mpr z; rw [← ((by rfl) : (0 : Int32) = nI 0)] at y; exact y)
    refine aw_iload_n (n := 5) dJ18_checkFromToIndex_4 rfl 0 rfl rfl ?_
    refine aw_iload_n (n := 6) dJ18_checkFromToIndex_5 rfl 1 rfl rfl ?_
    refine aw_icmp_gt (n := 9) (tgt := 14) dJ18_checkFromToIndex_6 (by decide) rfl (fun c_6 => ?_) (fun c_6 => ?_)
    · skip
      have n_6 : e < b := (nI_ltI (a := e) (b := b) (by omega) (by omega)).mp (by exact c_6)
      exfalso; omega
    · skip
      have n_6 : ¬ (e < b) := fun z => c_6 (by have y := (nI_ltI (a := e) (b := b) (by omega) (by omega)).mpr z; exact y)
      refine aw_iload_n (n := 10) dJ18_checkFromToIndex_9 rfl 1 rfl rfl ?_
      refine aw_iload_n (n := 11) dJ18_checkFromToIndex_10 rfl 2 rfl rfl ?_
      refine aw_icmp_le (n := 14) (tgt := 22) dJ18_checkFromToIndex_11 (by decide) rfl (fun c_11 => ?_) (fun c_11 => ?_)
      · skip
        have n_11 : e ≤ n := (nI_leI (a := e) (b := n) (by omega) (by omega)).mp (by exact c_11)
        refine aw_iload_n (n := 23) dJ18_checkFromToIndex_22 rfl 0 rfl rfl ?_
        exact aw_iret dJ18_checkFromToIndex_23 rfl ⟨rfl, rfl⟩ ⟨Nat.zero_le _, Nat.zero_le _⟩
      · skip
        have n_11 : ¬ (e ≤ n) := fun z => c_11 (by have y := (nI_leI (a := e) (b := n) (by omega) (by omega)).mpr z; exact y)
        exfalso; omega

theorem cs_cftR (G : aG) (h : hH) (b e n : Nat) (hbe : b ≤ e) (hen : e ≤ n) (hn : n < 2 ^ 31) (t : Nat) : Con G kJ18_checkFromToIndex [.int (nI b), .int (nI e), .int (nI n), .ref t] h ((1, 0, 0, 0), (fun r h1 => r = some (.int (nI b)) ∧ h = h1), nX) := by
  refine Con.of (plainFor_of_name rfl) rfl (Nat.le_of_ble_eq_true rfl) ?_
  refine AW.eq (lv2 := [(0, .int (nI b)), (1, .int (nI e)), (2, .int (nI n)), (3, .ref t)]) (s2 := []) rfl rfl rfl rfl rfl ?_
  refine aw_iload_n (n := 1) dJ18_checkFromToIndex_0 rfl 0 rfl rfl ?_
  refine aw_if_lt (n := 4) (tgt := 14) dJ18_checkFromToIndex_1 (by decide) rfl (fun c_1 => ?_) (fun c_1 => ?_)
  · skip
    have n_1 : b < 0 := (nI_ltI (a := b) (b := 0) (by omega) (by omega)).mp (by rw [← ((by rfl) : (0 : Int32) = nI 0)]; exact c_1)
    exact absurd c_1 (nI_pos (by omega))
  · skip
    have n_1 : ¬ (b < 0) := fun z => c_1 (by have y := (nI_ltI (a := b) (b := 0) (by omega) (by omega)).mpr z; rw [← ((by rfl) : (0 : Int32) = nI 0)] at y; exact y)
    refine aw_iload_n (n := 5) dJ18_checkFromToIndex_4 rfl 0 rfl rfl ?_
    refine aw_iload_n (n := 6) dJ18_checkFromToIndex_5 rfl 1 rfl rfl ?_
    refine aw_icmp_gt (n := 9) (tgt := 14) dJ18_checkFromToIndex_6 (by decide) rfl (fun c_6 => ?_) (fun c_6 => ?_)
    · skip
      have n_6 : e < b := (nI_ltI (a := e) (b := b) (by omega) (by omega)).mp (by exact c_6)
      exfalso; omega
    · skip
      have n_6 : ¬ (e < b) := fun z => c_6 (by have y := (nI_ltI (a := e) (b := b) (by omega) (by omega)).mpr z; exact y)
      refine aw_iload_n (n := 10) dJ18_checkFromToIndex_9 rfl 1 rfl rfl ?_
      refine aw_iload_n (n := 11) dJ18_checkFromToIndex_10 rfl 2 rfl rfl ?_
      refine aw_icmp_le (n := 14) (tgt := 22) dJ18_checkFromToIndex_11 (by decide) rfl (fun c_11 => ?_) (fun c_11 => ?_)
      · skip
        have n_11 : e ≤ n := (nI_leI (a := e) (b := n) (by omega) (by omega)).mp (by exact c_11)
        refine aw_iload_n (n := 23) dJ18_checkFromToIndex_22 rfl 0 rfl rfl ?_
        exact aw_iret dJ18_checkFromToIndex_23 rfl ⟨rfl, rfl⟩ ⟨Nat.zero_le _, Nat.zero_le _⟩
      · skip
        have n_11 : ¬ (e ≤ n) := fun z => c_11 (by have y := (nI_leI (a := e) (b := n) (by omega) (by omega)).mpr z; exact y)
        exfalso; omega

abbrev kJ12_checkBoundsBeginEnd : aK := (yJ12_checkBoundsBeginEnd, cJ12_checkBoundsBeginEnd, 3, (Option.none : Option Jvm.ClassFile.FieldType), [])
theorem hcJ12_checkBoundsBeginEnd : kJ12_checkBoundsBeginEnd.1.cls ≠ "java/lang/invoke/MethodHandle" ∧ kJ12_checkBoundsBeginEnd.1.cls ≠ "java/lang/invoke/VarHandle" ∧ (parseMethodDescriptor kJ12_checkBoundsBeginEnd.1.desc).map (fun d => d.parameters.length) = some 3 := ⟨by decide, by decide, by decide +kernel⟩
theorem cs_cbe (G : aG) (h : hH) (b e n : Nat) (hbe : b ≤ e) (hen : e ≤ n) (hn : n < 2 ^ 31) : Con G kJ12_checkBoundsBeginEnd [.int (nI b), .int (nI e), .int (nI n)] h ((2, 23, 0, 0), (fun r h1 => r = none ∧ h = h1), nX) := by
  refine Con.of (plainFor_of_name rfl) rfl (Nat.le_of_ble_eq_true rfl) ?_
  refine AW.eq (lv2 := [(0, .int (nI b)), (1, .int (nI e)), (2, .int (nI n))]) (s2 := []) rfl rfl rfl rfl rfl ?_
  refine aw_know (fun gd hi => ?_)
  refine aw_iload_n (n := 1) dJ12_checkBoundsBeginEnd_0 rfl 0 rfl rfl ?_
  refine aw_iload_n (n := 2) dJ12_checkBoundsBeginEnd_1 rfl 1 rfl rfl ?_
  refine aw_iload_n (n := 3) dJ12_checkBoundsBeginEnd_2 rfl 2 rfl rfl ?_
  rcases gd.2.2.2.2.2.2.2.1.2.2.1.2.2.2 with e35 | ⟨t35, e35⟩
  · skip
    refine aw_gets (n := 6) (v := .null) dJ12_checkBoundsBeginEnd_3 35 rfl q426 rfl e35 rfl ?_
    refine aw_callS (n := 9) (As := [.int (nI b), .int (nI e), .int (nI n), .null]) (rest := []) (K2 := kJ18_checkFromToIndex) dJ12_checkBoundsBeginEnd_6 q559 q560 q129 q561 hcJ18_checkFromToIndex (cs_cftN G h b e n hbe hen hn) rfl (Nat.le_of_ble_eq_true rfl) ⟨Nat.le_of_ble_eq_true rfl, Nat.le_of_ble_eq_true rfl⟩ ⟨by first | omega | (dsimp only; omega) | decide, by first | omega | (dsimp only; omega) | decide⟩ (fun _ _ _ z => z.elim) rfl (fun r_6 h_6 q_6 => ?_)
    obtain ⟨rfl, rfl⟩ := q_6
    refine AW.sts (st' := [.int (nI b)]) rfl ?_
    refine aw_pop (n := 10) dJ12_checkBoundsBeginEnd_9 rfl rfl ?_
    exact aw_vret dJ12_checkBoundsBeginEnd_10 rfl ⟨rfl, rfl⟩ ⟨Nat.zero_le _, Nat.zero_le _⟩
  · skip
    refine aw_gets (n := 6) (v := .ref t35) dJ12_checkBoundsBeginEnd_3 35 rfl q426 rfl e35 rfl ?_
    refine aw_callS (n := 9) (As := [.int (nI b), .int (nI e), .int (nI n), .ref t35]) (rest := []) (K2 := kJ18_checkFromToIndex) dJ12_checkBoundsBeginEnd_6 q559 q560 q129 q561 hcJ18_checkFromToIndex (cs_cftR G h b e n hbe hen hn t35) rfl (Nat.le_of_ble_eq_true rfl) ⟨Nat.le_of_ble_eq_true rfl, Nat.le_of_ble_eq_true rfl⟩ ⟨by first | omega | (dsimp only; omega) | decide, by first | omega | (dsimp only; omega) | decide⟩ (fun _ _ _ z => z.elim) rfl (fun r_6 h_6 q_6 => ?_)
    obtain ⟨rfl, rfl⟩ := q_6
    refine AW.sts (st' := [.int (nI b)]) rfl ?_
    refine aw_pop (n := 10) dJ12_checkBoundsBeginEnd_9 rfl rfl ?_
    exact aw_vret dJ12_checkBoundsBeginEnd_10 rfl ⟨rfl, rfl⟩ ⟨Nat.zero_le _, Nat.zero_le _⟩

abbrev kJ12_init_3 : aK := (yJ12_init_3, cJ12_init_3, 3, (Option.none : Option Jvm.ClassFile.FieldType), [])
theorem hcJ12_init_3 : kJ12_init_3.1.cls ≠ "java/lang/invoke/MethodHandle" ∧ kJ12_init_3.1.cls ≠ "java/lang/invoke/VarHandle" ∧ (parseMethodDescriptor kJ12_init_3.1.desc).map (fun d => d.parameters.length) = some 2 := ⟨by decide, by decide, by decide +kernel⟩
theorem cs_strI (G : aG) (h : hH) (a v : Nat) (hba : gB G ≤ a) (hA : h.2 a = some (hob 29 [.null, .int 0, .int 0, .int 0])) : Con G kJ12_init_3 [.ref a, .ref v, .int 0] h ((2, 24, 0, 0), (fun r h1 => r = none ∧ h1.2 a = some (hob 29 [.ref v, .int 0, .int 0, .int 0]) ∧ Fr (fun q => q = a) h h1 ∧ h1.1 = h.1), nX) := by
  refine Con.of (plainFor_of_name rfl) rfl (Nat.le_of_ble_eq_true rfl) ?_
  refine AW.eq (lv2 := [(0, .ref a), (1, .ref v), (2, .int 0)]) (s2 := []) rfl rfl rfl rfl rfl ?_
  refine aw_know (fun gd hi => ?_)
  have lt_a : a < h.1 := hi.2.1 _ _ hA
  refine aw_aload_n (n := 1) dJ12_init_3_0 rfl 0 rfl rfl ?_
  refine aw_objInit (n := 4) dJ12_init_3_1 q464 ⟨Nat.le_of_ble_eq_true rfl, Nat.le_of_ble_eq_true rfl⟩ rfl ?_
  refine aw_aload_n (n := 5) dJ12_init_3_4 rfl 0 rfl rfl ?_
  refine aw_aload_n (n := 6) dJ12_init_3_5 rfl 1 rfl rfl ?_
  refine aw_putK (n := 9) (fs' := [.ref v, .int 0, .int 0, .int 0]) (C0 := RJ12) (T := TJ12) (N := 4) (ci := 29) dJ12_init_3_6 rfl in_J12 tyJ12 tyJ12_ok nmJ12 q457 0 (by decide) q645 (Or.inl rfl) (by first | exact Or.inl rfl | exact Or.inr ⟨rfl, rfl, rfl⟩) rfl hA (by omega) rfl rfl (Nat.le_of_ble_eq_true rfl) rfl rfl (fun y_1 w_1 => ?_)
  have zy_1 : y_1.1 = h.1 := w_1.2.2
  refine aw_aload_n (n := 10) dJ12_init_3_9 rfl 0 rfl rfl ?_
  refine aw_iload_n (n := 11) dJ12_init_3_10 rfl 2 rfl rfl ?_
  refine aw_putK (n := 14) (fs' := [.ref v, .int 0, .int 0, .int 0]) (C0 := RJ12) (T := TJ12) (N := 4) (ci := 29) dJ12_init_3_11 rfl in_J12 tyJ12 tyJ12_ok nmJ12 q457 1 (by decide) q646 (Or.inl rfl) (by first | exact Or.inl rfl | exact Or.inr ⟨rfl, rfl, rfl⟩) rfl w_1.1 (by omega) rfl rfl (Nat.le_of_ble_eq_true rfl) rfl rfl (fun y_2 w_2 => ?_)
  have zy_2 : y_2.1 = y_1.1 := w_2.2.2
  exact aw_vret dJ12_init_3_14 rfl ⟨rfl, w_2.1, (Fr.w (Fr.w Fr.rf w_1 (Or.inl rfl)) w_2 (Or.inl rfl)), by omega⟩ ⟨Nat.zero_le _, Nat.zero_le _⟩

abbrev kJ17_newString : aK := (yJ17_newString, cJ17_newString, 3, (Option.some (Jvm.ClassFile.FieldType.object "java/lang/String")), [])
theorem hcJ17_newString : kJ17_newString.1.cls ≠ "java/lang/invoke/MethodHandle" ∧ kJ17_newString.1.cls ≠ "java/lang/invoke/VarHandle" ∧ (parseMethodDescriptor kJ17_newString.1.desc).map (fun d => d.parameters.length) = some 3 := ⟨by decide, by decide, by decide +kernel⟩
theorem dfJ12 : ∀ j, j < 4 → ([.null, .int 0, .int 0, .int 0] : List Value)[j]? = some (defaultValue (tyJ12 j)) := fun j hj => by
  match j, hj with
  | 0, _ => rfl
  | 1, _ => rfl
  | 2, _ => rfl
  | 3, _ => rfl
theorem cs_newStr (G : aG) (h : hH) (v : Nat) (bs : List Nat) (f : Nat → Value) (hV : h.2 v = some (har 2 bs.length f)) (hf : ∀ j, j < bs.length → f j = .int (sb_b (bs.getD j 0))) (hb : ∀ j, j < bs.length → bs.getD j 0 < 256) (hl : bs.length ≤ 2000) (b l : Nat) (hl0 : 0 < l) (hbl : b + l ≤ bs.length) : Con G kJ17_newString [.ref v, .int (nI b), .int (nI l)] h ((4, 106, 2, 4 + l), (fun r h1 => ∃ x u : Nat, r = some (.ref x) ∧ gB G ≤ x ∧ h.1 ≤ x ∧ h.1 ≤ u ∧ gB G ≤ u ∧ isSt h1 x u (slc bs b (b + l)) 0 0 ∧ Fr nS h h1 ∧ h1.1 = h.1 + 2), nX) := by
  refine Con.of (plainFor_of_name rfl) rfl (Nat.le_of_ble_eq_true rfl) ?_
  refine AW.eq (lv2 := [(0, .ref v), (1, .int (nI b)), (2, .int (nI l))]) (s2 := []) rfl rfl rfl rfl rfl ?_
  refine aw_know (fun gd hi => ?_)
  have lt_v : v < h.1 := hi.2.1 _ _ hV
  refine aw_iload_n (n := 1) dJ17_newString_0 rfl 2 rfl rfl ?_
  refine aw_if_ne (n := 4) (tgt := 7) dJ17_newString_1 (by decide) rfl (fun c_1 => ?_) (fun c_1 => ?_)
  · skip
    have n_1 : ¬ (l = 0) := fun z => c_1 (by have y := (nI_eq (a := l) (b := 0) (by omega) (by omega)).mpr z; rw [← ((by rfl) : (0 : Int32) = nI 0)] at y; exact y)
    refine aw_newK (n := 10) (C0 := RJ12) (T := TJ12) (N := 4) (ci := 29) (fs := [.null, .int 0, .int 0, .int 0]) dJ17_newString_7 rfl in_J12 tyJ12 tyJ12_ok q696 4 q457 q122 rfl dfJ12 (by first | omega | (dsimp only; omega) | decide) (by first | omega | (dsimp only; omega) | decide) rfl (by first | rfl | omega) (by first | rfl | omega) (fun y_1 u_1 bu_1 w_1 => ?_)
    have eu_1 : u_1 = h.1 := w_1.2.2.1
    have zy_1 : y_1.1 = u_1 + 1 := w_1.2.2.2
    refine aw_dup (n := 11) dJ17_newString_10 rfl rfl ?_
    refine aw_aload_n (n := 12) dJ17_newString_11 rfl 0 rfl rfl ?_
    refine aw_iload_n (n := 13) dJ17_newString_12 rfl 1 rfl rfl ?_
    refine aw_iload_n (n := 14) dJ17_newString_13 rfl 1 rfl rfl ?_
    refine aw_iload_n (n := 15) dJ17_newString_14 rfl 2 rfl rfl ?_
    refine aw_iadd (n := 16) dJ17_newString_15 rfl ?_
    refine AW.sts (st' := [.int (nI (b + l)), .int (nI b), .ref v, .ref u_1, .ref u_1]) (by rw [show (nI b) + (nI l) = nI (b + l) from (by rw [show nI b = nI b from rfl, show nI l = nI l from rfl]; exact nI_add _ _)]) ?_
    have f_2 : y_1.2 v = some (har 2 bs.length f) := (w_1.k (by omega) hV)
    have e99 : b + l - b = l := Nat.add_sub_cancel_left b l
    refine aw_callS (n := 19) (As := [.ref v, .int (nI b), .int (nI (b + l))]) (rest := [.ref u_1, .ref u_1]) (K2 := kJ16_copyOfRange) dJ17_newString_16 q697 q480 q126 q481 hcJ16_copyOfRange (cs_cr G y_1 v bs.length b (b + l) f f_2 (fun j hj => by rw [hf j hj]; exact sb_fits _) (by omega) (by omega) hbl) rfl (Nat.le_of_ble_eq_true rfl) ⟨Nat.le_of_ble_eq_true rfl, Nat.le_of_ble_eq_true rfl⟩ ⟨by first | omega | (dsimp only; omega) | decide, by first | omega | (dsimp only; omega) | decide⟩ (fun _ _ _ z => z.elim) rfl (fun r_16 h_16 q_16 => ?_)
    obtain ⟨x_16, g_16, rfl, b_16, lx_16, hX_16, hg_16, hF_16, zz_16⟩ := q_16
    rw [e99] at hX_16 hg_16
    have zc_16 : y_1.1 ≤ h_16.1 := hF_16.1
    refine AW.eq (lv2 := [(0, .ref v), (1, .int (nI b)), (2, .int (nI l))]) (s2 := [.ref x_16, .ref u_1, .ref u_1]) (c2 := 2) (d2 := 4 + l) rfl rfl rfl (by rfl) (by show 4 + (b + l - b) = 4 + l; rw [e99]) ?_
    refine aw_iconst (n := 20) (v := 0) dJ17_newString_19 (by decide) rfl ?_
    have f_3 : h_16.2 u_1 = some (hob 29 [.null, .int 0, .int 0, .int 0]) := (hF_16.k (by omega) (fun z => z) w_1.1)
    refine aw_callI (n := 23) (As := [.ref x_16, .int 0]) (rest := [.ref u_1]) (K2 := kJ12_init_3) dJ17_newString_20 q698 q699 q122 q700 rfl rfl hcJ12_init_3 (cs_strI G h_16 u_1 x_16 bu_1 f_3) rfl (Nat.le_of_ble_eq_true rfl) ⟨Nat.le_of_ble_eq_true rfl, Nat.le_of_ble_eq_true rfl⟩ ⟨by first | omega | (dsimp only; omega) | decide, by first | omega | (dsimp only; omega) | decide⟩ (fun _ _ _ z => z.elim) rfl (fun r_20 h_20 q_20 => ?_)
    obtain ⟨rfl, hI_20, hF_20, hz_20⟩ := q_20
    have zc_20 : h_16.1 ≤ h_20.1 := hF_20.1
    refine AW.sts (st' := [.ref u_1]) rfl ?_
    have f_4 : h_20.2 x_16 = some (har 2 l g_16) := (hF_20.k (by omega) (by omega) hX_16)
    exact aw_aret dJ17_newString_23 rfl (Or.inl ⟨_, rfl⟩) (Or.inr ⟨_, rfl⟩) ⟨u_1, x_16, rfl, bu_1, by omega, by omega, b_16, ⟨g_16, hI_20, by rw [slc_len hbl, Nat.add_sub_cancel_left]; exact f_4, fun j hj => by rw [slc_len hbl, Nat.add_sub_cancel_left] at hj; rw [hg_16 j hj, hf _ (by omega), slc_getD (by omega)], fun j hj => by rw [slc_len hbl, Nat.add_sub_cancel_left] at hj; rw [slc_getD (by omega)]; exact hb _ (by omega), by rw [slc_len hbl]; omega⟩, (Fr.c (Fr.c (Fr.n Fr.rf w_1) hF_16 (fun _ z => z.elim)) hF_20 (fun a9 z9 => by have z9 : a9 = u_1 := z9; rw [z9]; exact (Or.inr (by omega)))), by omega⟩ ⟨(by first | exact Nat.le_refl _ | omega | (dsimp only; omega)), (by first | exact Nat.le_refl _ | omega | (dsimp only; omega))⟩
  · skip
    have n_1 : l = 0 := (nI_eq (a := l) (b := 0) (by omega) (by omega)).mp (by rw [← ((by rfl) : (0 : Int32) = nI 0)]; exact c_1)
    exfalso; omega

abbrev kJ12_substring : aK := (yJ12_substring, cJ12_substring, 5, (Option.some (Jvm.ClassFile.FieldType.object "java/lang/String")), [])
theorem hcJ12_substring : kJ12_substring.1.cls ≠ "java/lang/invoke/MethodHandle" ∧ kJ12_substring.1.cls ≠ "java/lang/invoke/VarHandle" ∧ (parseMethodDescriptor kJ12_substring.1.desc).map (fun d => d.parameters.length) = some 2 := ⟨by decide, by decide, by decide +kernel⟩
theorem cs_substr (G : aG) (h : hH) (a v : Nat) (bs : List Nat) (w z : Int32) (hS : isSt h a v bs w z) (hok : hOK bs w z) (b e : Nat) (hbe : b < e) (hen : e ≤ bs.length) : Con G kJ12_substring [.ref a, .int (nI b), .int (nI e)] h ((5, 128, 2, 4 + (e - b)), (fun r h1 => ∃ (x u : Nat) (w1 z1 : Int32), r = some (.ref x) ∧ isSt h1 x u (slc bs b e) w1 z1 ∧ hOK (slc bs b e) w1 z1 ∧ ((x = a ∧ u = v ∧ w1 = w ∧ z1 = z ∧ h1 = h ∧ slc bs b e = bs) ∨ (gB G ≤ x ∧ h.1 ≤ x ∧ h.1 ≤ u ∧ gB G ≤ u ∧ w1 = 0 ∧ z1 = 0)) ∧ Fr nS h h1 ∧ h1.1 ≤ h.1 + 2), nX) := by
  have hS0 := hS
  obtain ⟨f, hA, hV, hf, hb, hl⟩ := hS
  refine Con.of (plainFor_of_name rfl) rfl (Nat.le_of_ble_eq_true rfl) ?_
  refine AW.eq (lv2 := [(0, .ref a), (1, .int (nI b)), (2, .int (nI e))]) (s2 := []) rfl rfl rfl rfl rfl ?_
  refine aw_know (fun gd hi => ?_)
  have lt_a : a < h.1 := hi.2.1 _ _ hA
  have lt_v : v < h.1 := hi.2.1 _ _ hV
  refine aw_aload_n (n := 1) dJ12_substring_0 rfl 0 rfl rfl ?_
  refine aw_callV (n := 4) (C0 := RJ12) (As := []) (rest := []) (K2 := kJ12_length) dJ12_substring_1 q690 q583 q584 q122 q585 ⟨rfl, hcJ12_length⟩ rfl hA (cs_length G h a v bs.length w z f hA hV (by omega)) rfl (Nat.le_of_ble_eq_true rfl) ⟨Nat.le_of_ble_eq_true rfl, Nat.le_of_ble_eq_true rfl⟩ ⟨by first | omega | (dsimp only; omega) | decide, by first | omega | (dsimp only; omega) | decide⟩ (fun _ _ _ z => z.elim) rfl (fun r_1 h_1 q_1 => ?_)
  obtain ⟨rfl, rfl⟩ := q_1
  refine AW.sts (st' := [.int (nI bs.length)]) rfl ?_
  refine aw_istore_n (n := 5) (lv' := [(3, .int (nI bs.length)), (0, .ref a), (1, .int (nI b)), (2, .int (nI e))]) dJ12_substring_4 rfl (by decide) rfl rfl ?_
  refine aw_iload_n (n := 6) dJ12_substring_5 rfl 2 rfl rfl ?_
  refine aw_iload_n (n := 7) dJ12_substring_6 rfl 3 rfl rfl ?_
  refine aw_iload_n (n := 8) dJ12_substring_7 rfl 0 rfl rfl ?_
  refine aw_callS (n := 11) (As := [.int (nI b), .int (nI e), .int (nI bs.length)]) (rest := []) (K2 := kJ12_checkBoundsBeginEnd) dJ12_substring_8 q691 q557 q122 q558 hcJ12_checkBoundsBeginEnd (cs_cbe G h b e bs.length (Nat.le_of_lt hbe) hen (by omega)) rfl (Nat.le_of_ble_eq_true rfl) ⟨Nat.le_of_ble_eq_true rfl, Nat.le_of_ble_eq_true rfl⟩ ⟨by first | omega | (dsimp only; omega) | decide, by first | omega | (dsimp only; omega) | decide⟩ (fun _ _ _ z => z.elim) rfl (fun r_8 h_8 q_8 => ?_)
  obtain ⟨rfl, rfl⟩ := q_8
  refine AW.sts (st' := []) rfl ?_
  refine aw_iload_n (n := 12) dJ12_substring_11 rfl 2 rfl rfl ?_
  refine aw_if_ne (n := 15) (tgt := 22) dJ12_substring_12 (by decide) rfl (fun c_12 => ?_) (fun c_12 => ?_)
  · skip
    have n_12 : ¬ (b = 0) := fun z => c_12 (by have y := (nI_eq (a := b) (b := 0) (by omega) (by omega)).mpr z; rw [← ((by rfl) : (0 : Int32) = nI 0)] at y; exact y)
    refine aw_iload_n (n := 23) dJ12_substring_22 rfl 3 rfl rfl ?_
    refine aw_iload_n (n := 24) dJ12_substring_23 rfl 2 rfl rfl ?_
    refine aw_isub (n := 25) dJ12_substring_24 rfl ?_
    refine aw_istore (n := 27) (lv' := [(4, .int ((nI e) - (nI b))), (3, .int (nI bs.length)), (0, .ref a), (1, .int (nI b)), (2, .int (nI e))]) dJ12_substring_25 (by decide) rfl rfl ?_
    refine aw_aload_n (n := 28) dJ12_substring_27 rfl 2 rfl rfl ?_
    refine aw_callV (n := 31) (C0 := RJ12) (As := []) (rest := []) (K2 := kJ12_isLatin1) dJ12_substring_28 q666 q667 q668 q122 q669 ⟨rfl, hcJ12_isLatin1⟩ rfl hA (cs_isLatin1 G h a v bs.length w z f hA hV (by omega)) rfl (Nat.le_of_ble_eq_true rfl) ⟨Nat.le_of_ble_eq_true rfl, Nat.le_of_ble_eq_true rfl⟩ ⟨by first | omega | (dsimp only; omega) | decide, by first | omega | (dsimp only; omega) | decide⟩ (fun _ _ _ z => z.elim) rfl (fun r_28 h_28 q_28 => ?_)
    obtain ⟨rfl, rfl⟩ := q_28
    refine AW.sts (st' := [.int 1]) rfl ?_
    refine aw_if_eq (n := 34) (tgt := 47) dJ12_substring_31 (by decide) rfl (fun c_31 => ?_) (fun c_31 => ?_)
    · skip
      exact absurd c_31 (by decide +kernel)
    · skip
      refine aw_aload_n (n := 35) dJ12_substring_34 rfl 2 rfl rfl ?_
      refine aw_getf (n := 38) (v := .ref v) (C0 := RJ12) (T := TJ12) dJ12_substring_35 rfl 0 q645 (Or.inl rfl) hA rfl rfl ?_
      refine aw_iload_n (n := 39) dJ12_substring_38 rfl 3 rfl rfl ?_
      refine aw_iload (n := 41) dJ12_substring_39 0 rfl rfl ?_
      refine AW.sts (st' := [.int (nI (e - b)), .int (nI b), .ref v]) (by rw [show (nI e) - (nI b) = nI (e - b) from (by rw [show (nI e) = nI e from rfl, show (nI b) = nI b from rfl]; exact pk_sub (by omega))]) ?_
      refine aw_callS (n := 44) (As := [.ref v, .int (nI b), .int (nI (e - b))]) (rest := []) (K2 := kJ17_newString) dJ12_substring_41 q692 q693 q128 q694 hcJ17_newString (cs_newStr G h v bs f hV hf hb hl b (e - b) (by omega) (by omega)) rfl (Nat.le_of_ble_eq_true rfl) ⟨Nat.le_of_ble_eq_true rfl, Nat.le_of_ble_eq_true rfl⟩ ⟨by first | omega | (dsimp only; omega) | decide, by first | omega | (dsimp only; omega) | decide⟩ (fun _ _ _ z => z.elim) rfl (fun r_41 h_41 q_41 => ?_)
      obtain ⟨x_41, u_41, rfl, b_41, lx_41, lu_41, bu_41, hS_41, hF_41, zz_41⟩ := q_41
      rw [show b + (e - b) = e by omega] at hS_41
      have zc_41 : h.1 ≤ h_41.1 := hF_41.1
      refine AW.sts (st' := [.ref x_41]) rfl ?_
      refine aw_goto (tgt := 57) dJ12_substring_44 (by decide) ?_
      exact aw_aret dJ12_substring_57 rfl (Or.inl ⟨_, rfl⟩) (Or.inr ⟨_, rfl⟩) ⟨x_41, u_41, 0, 0, rfl, hS_41, Or.inl ⟨rfl, rfl⟩, Or.inr ⟨b_41, lx_41, lu_41, bu_41, rfl, rfl⟩, hF_41, by omega⟩ ⟨(by first | exact Nat.le_refl _ | omega | (dsimp only; omega)), (by first | exact Nat.le_refl _ | omega | (dsimp only; omega))⟩
  · skip
    have n_12 : b = 0 := (nI_eq (a := b) (b := 0) (by omega) (by omega)).mp (by rw [← ((by rfl) : (0 : Int32) = nI 0)]; exact c_12)
    refine aw_iload_n (n := 16) dJ12_substring_15 rfl 3 rfl rfl ?_
    refine aw_iload_n (n := 17) dJ12_substring_16 rfl 0 rfl rfl ?_
    refine aw_icmp_ne (n := 20) (tgt := 22) dJ12_substring_17 (by decide) rfl (fun c_17 => ?_) (fun c_17 => ?_)
    · skip
      have n_17 : ¬ (e = bs.length) := fun z => c_17 (by have y := (nI_eq (a := e) (b := bs.length) (by omega) (by omega)).mpr z; exact y)
      refine aw_iload_n (n := 23) dJ12_substring_22 rfl 3 rfl rfl ?_
      refine aw_iload_n (n := 24) dJ12_substring_23 rfl 2 rfl rfl ?_
      refine aw_isub (n := 25) dJ12_substring_24 rfl ?_
      refine aw_istore (n := 27) (lv' := [(4, .int ((nI e) - (nI b))), (3, .int (nI bs.length)), (0, .ref a), (1, .int (nI b)), (2, .int (nI e))]) dJ12_substring_25 (by decide) rfl rfl ?_
      refine aw_aload_n (n := 28) dJ12_substring_27 rfl 2 rfl rfl ?_
      refine aw_callV (n := 31) (C0 := RJ12) (As := []) (rest := []) (K2 := kJ12_isLatin1) dJ12_substring_28 q666 q667 q668 q122 q669 ⟨rfl, hcJ12_isLatin1⟩ rfl hA (cs_isLatin1 G h a v bs.length w z f hA hV (by omega)) rfl (Nat.le_of_ble_eq_true rfl) ⟨Nat.le_of_ble_eq_true rfl, Nat.le_of_ble_eq_true rfl⟩ ⟨by first | omega | (dsimp only; omega) | decide, by first | omega | (dsimp only; omega) | decide⟩ (fun _ _ _ z => z.elim) rfl (fun r_28 h_28 q_28 => ?_)
      obtain ⟨rfl, rfl⟩ := q_28
      refine AW.sts (st' := [.int 1]) rfl ?_
      refine aw_if_eq (n := 34) (tgt := 47) dJ12_substring_31 (by decide) rfl (fun c_31_2 => ?_) (fun c_31_2 => ?_)
      · skip
        exact absurd c_31_2 (by decide +kernel)
      · skip
        refine aw_aload_n (n := 35) dJ12_substring_34 rfl 2 rfl rfl ?_
        refine aw_getf (n := 38) (v := .ref v) (C0 := RJ12) (T := TJ12) dJ12_substring_35 rfl 0 q645 (Or.inl rfl) hA rfl rfl ?_
        refine aw_iload_n (n := 39) dJ12_substring_38 rfl 3 rfl rfl ?_
        refine aw_iload (n := 41) dJ12_substring_39 0 rfl rfl ?_
        refine AW.sts (st' := [.int (nI (e - b)), .int (nI b), .ref v]) (by rw [show (nI e) - (nI b) = nI (e - b) from (by rw [show (nI e) = nI e from rfl, show (nI b) = nI b from rfl]; exact pk_sub (by omega))]) ?_
        refine aw_callS (n := 44) (As := [.ref v, .int (nI b), .int (nI (e - b))]) (rest := []) (K2 := kJ17_newString) dJ12_substring_41 q692 q693 q128 q694 hcJ17_newString (cs_newStr G h v bs f hV hf hb hl b (e - b) (by omega) (by omega)) rfl (Nat.le_of_ble_eq_true rfl) ⟨Nat.le_of_ble_eq_true rfl, Nat.le_of_ble_eq_true rfl⟩ ⟨by first | omega | (dsimp only; omega) | decide, by first | omega | (dsimp only; omega) | decide⟩ (fun _ _ _ z => z.elim) rfl (fun r_41 h_41 q_41 => ?_)
        obtain ⟨x_41, u_41, rfl, b_41, lx_41, lu_41, bu_41, hS_41, hF_41, zz_41⟩ := q_41
        rw [show b + (e - b) = e by omega] at hS_41
        have zc_41 : h.1 ≤ h_41.1 := hF_41.1
        refine AW.sts (st' := [.ref x_41]) rfl ?_
        refine aw_goto (tgt := 57) dJ12_substring_44 (by decide) ?_
        exact aw_aret dJ12_substring_57 rfl (Or.inl ⟨_, rfl⟩) (Or.inr ⟨_, rfl⟩) ⟨x_41, u_41, 0, 0, rfl, hS_41, Or.inl ⟨rfl, rfl⟩, Or.inr ⟨b_41, lx_41, lu_41, bu_41, rfl, rfl⟩, hF_41, by omega⟩ ⟨(by first | exact Nat.le_refl _ | omega | (dsimp only; omega)), (by first | exact Nat.le_refl _ | omega | (dsimp only; omega))⟩
    · skip
      have n_17 : e = bs.length := (nI_eq (a := e) (b := bs.length) (by omega) (by omega)).mp (by exact c_17)
      refine aw_aload_n (n := 21) dJ12_substring_20 rfl 1 rfl rfl ?_
      exact aw_aret dJ12_substring_21 rfl (Or.inl ⟨_, rfl⟩) (Or.inr ⟨_, rfl⟩) ⟨a, v, w, z, rfl, by rw [show b = 0 by omega, show e = bs.length by omega, slc_all]; exact hS0, by rw [show b = 0 by omega, show e = bs.length by omega, slc_all]; exact hok, Or.inl ⟨rfl, rfl, rfl, rfl, rfl, by rw [show b = 0 by omega, show e = bs.length by omega, slc_all]⟩, Fr.rf, by omega⟩ ⟨Nat.zero_le _, Nat.zero_le _⟩

end
