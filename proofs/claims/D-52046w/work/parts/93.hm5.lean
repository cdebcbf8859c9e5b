/-! Nodes made; getTreeNode; moveRootToFront. -/
section
set_option maxRecDepth 100000
/-- the bin of a hash in a table of n bins -/
def ixT (n : Nat) (w : Int32) : Nat := ((nI n - 1) &&& w).toNatClampNeg
def nOK (n : Nat) : Prop := n = 16 ∨ n = 32 ∨ n = 64
theorem ixT_in {n : Nat} (hn : nOK n) (w : Int32) : (nI n - 1) &&& w = nI (ixT n w) ∧ ixT n w < n := by
  have key : ∃ j : Nat, j < n ∧ (nI n - 1) &&& w = nI j := by
    rw [Int32.and_comm]
    rcases hn with e | e | e <;> subst e
    · obtain ⟨j, h1, h2⟩ := pk_andE w (m := nI 16 - 1) 4 (by decide)
      exact ⟨j, h1, h2⟩
    · obtain ⟨j, h1, h2⟩ := pk_andE w (m := nI 32 - 1) 5 (by decide)
      exact ⟨j, h1, h2⟩
    · obtain ⟨j, h1, h2⟩ := pk_andE w (m := nI 64 - 1) 6 (by decide)
      exact ⟨j, h1, h2⟩
  obtain ⟨j, h1, h2⟩ := key
  have h3 : j < 2 ^ 31 := by rcases hn with e | e | e <;> omega
  have h4 : ixT n w = j := by unfold ixT; rw [h2]; exact nI_clamp h3
  rw [h4]
  exact ⟨h2, h1⟩
abbrev kJ25_init : aK := (yJ25_init, cJ25_init, 5, (Option.none : Option Jvm.ClassFile.FieldType), [])
theorem hcJ25_init : kJ25_init.1.cls ≠ "java/lang/invoke/MethodHandle" ∧ kJ25_init.1.cls ≠ "java/lang/invoke/VarHandle" ∧ (parseMethodDescriptor kJ25_init.1.desc).map (fun d => d.parameters.length) = some 4 := ⟨by decide, by decide, by decide +kernel⟩
theorem hm_nI26 (G : aG) (h : hH) (x k v : Nat) (w : Int32) (xn : Option Nat) (hbx : gB G ≤ x) (hX : h.2 x = some (hob 26 [.int 0, .null, .null, .null])) : Con G kJ25_init [.ref x, .int w, .ref k, .ref v, va_rf xn] h ((2, 24, 0, 0), (fun r h1 => r = none ∧ h1.2 x = some (hob 26 [.int w, .ref k, .ref v, va_rf xn]) ∧ Fr (fun q => q = x) h h1 ∧ h1.1 = h.1), nX) := by
  refine Con.of (plainFor_of_name rfl) rfl (by cases xn <;> exact Nat.le_of_ble_eq_true rfl) ?_
  refine AW.eq (lv2 := [(0, .ref x), (1, .int w), (2, .ref k), (3, .ref v), (4, va_rf xn)]) (s2 := []) rfl rfl rfl rfl rfl ?_
  refine aw_know (fun gd hi => ?_)
  have lt_x : x < h.1 := hi.2.1 _ _ hX
  refine aw_aload_n (n := 1) dJ25_init_0 rfl 0 rfl rfl ?_
  refine aw_objInit (n := 4) dJ25_init_1 q1545 ⟨Nat.le_of_ble_eq_true rfl, Nat.le_of_ble_eq_true rfl⟩ rfl ?_
  refine aw_aload_n (n := 5) dJ25_init_4 rfl 0 rfl rfl ?_
  refine aw_iload_n (n := 6) dJ25_init_5 rfl 1 rfl rfl ?_
  refine aw_putK (n := 9) (fs' := [.int w, .null, .null, .null]) (C0 := RJ25) (T := TJ25) (N := 4) (ci := 26) dJ25_init_6 rfl in_J25 tyJ25 tyJ25_ok nmJ25 q1541 0 (by decide) q1546 (Or.inl rfl) (by first | exact Or.inl rfl | exact Or.inr ⟨rfl, rfl, rfl⟩) rfl hX (by omega) rfl rfl (Nat.le_of_ble_eq_true rfl) rfl rfl (fun y_1 w_1 => ?_)
  have zy_1 : y_1.1 = h.1 := w_1.2.2
  refine aw_aload_n (n := 10) dJ25_init_9 rfl 0 rfl rfl ?_
  refine aw_aload_n (n := 11) dJ25_init_10 rfl 2 rfl rfl ?_
  refine aw_putK (n := 14) (fs' := [.int w, .ref k, .null, .null]) (C0 := RJ25) (T := TJ25) (N := 4) (ci := 26) dJ25_init_11 rfl in_J25 tyJ25 tyJ25_ok nmJ25 q1541 1 (by decide) q1550 (Or.inl rfl) (by first | exact Or.inl rfl | exact Or.inr ⟨rfl, rfl, rfl⟩) rfl w_1.1 (by omega) rfl rfl (Nat.le_of_ble_eq_true rfl) rfl rfl (fun y_2 w_2 => ?_)
  have zy_2 : y_2.1 = y_1.1 := w_2.2.2
  refine aw_aload_n (n := 15) dJ25_init_14 rfl 0 rfl rfl ?_
  refine aw_aload_n (n := 16) dJ25_init_15 rfl 3 rfl rfl ?_
  refine aw_putK (n := 19) (fs' := [.int w, .ref k, .ref v, .null]) (C0 := RJ25) (T := TJ25) (N := 4) (ci := 26) dJ25_init_16 rfl in_J25 tyJ25 tyJ25_ok nmJ25 q1541 2 (by decide) q1554 (Or.inl rfl) (by first | exact Or.inl rfl | exact Or.inr ⟨rfl, rfl, rfl⟩) rfl w_2.1 (by omega) rfl rfl (Nat.le_of_ble_eq_true rfl) rfl rfl (fun y_3 w_3 => ?_)
  have zy_3 : y_3.1 = y_2.1 := w_3.2.2
  refine aw_aload_n (n := 20) dJ25_init_19 rfl 0 rfl rfl ?_
  refine aw_aloadQ (n := 22) dJ25_init_20 4 rfl rfl ?_
  refine aw_putK (n := 25) (fs' := [.int w, .ref k, .ref v, va_rf xn]) (C0 := RJ25) (T := TJ25) (N := 4) (ci := 26) dJ25_init_22 rfl in_J25 tyJ25 tyJ25_ok nmJ25 q1541 3 (by decide) q1556 (Or.inl rfl) (by first | exact Or.inl rfl | exact Or.inr ⟨rfl, rfl, rfl⟩) rfl w_3.1 (by omega) (va_rf_nar _) (va_rf_fit _) (Nat.le_of_ble_eq_true rfl) rfl rfl (fun y_4 w_4 => ?_)
  have zy_4 : y_4.1 = y_3.1 := w_4.2.2
  exact aw_vret dJ25_init_25 rfl ⟨rfl, w_4.1, (Fr.w (Fr.w (Fr.w (Fr.w Fr.rf w_1 (Or.inl rfl)) w_2 (Or.inl rfl)) w_3 (Or.inl rfl)) w_4 (Or.inl rfl)), by omega⟩ ⟨Nat.zero_le _, Nat.zero_le _⟩

theorem hm_nI27 (G : aG) (h : hH) (x k v : Nat) (w : Int32) (xn : Option Nat) (hbx : gB G ≤ x) (hX : h.2 x = some (hob 27 [.null, .null, .int 0, .null, .null, .null, .null, .null, .null, .null, .int 0])) : Con G kJ25_init [.ref x, .int w, .ref k, .ref v, va_rf xn] h ((2, 24, 0, 0), (fun r h1 => r = none ∧ h1.2 x = some (hob 27 [.null, .null, .int w, .ref k, .ref v, va_rf xn, .null, .null, .null, .null, .int 0]) ∧ Fr (fun q => q = x) h h1 ∧ h1.1 = h.1), nX) := by
  refine Con.of (plainFor_of_name rfl) rfl (by cases xn <;> exact Nat.le_of_ble_eq_true rfl) ?_
  refine AW.eq (lv2 := [(0, .ref x), (1, .int w), (2, .ref k), (3, .ref v), (4, va_rf xn)]) (s2 := []) rfl rfl rfl rfl rfl ?_
  refine aw_know (fun gd hi => ?_)
  have lt_x : x < h.1 := hi.2.1 _ _ hX
  refine aw_aload_n (n := 1) dJ25_init_0 rfl 0 rfl rfl ?_
  refine aw_objInit (n := 4) dJ25_init_1 q1545 ⟨Nat.le_of_ble_eq_true rfl, Nat.le_of_ble_eq_true rfl⟩ rfl ?_
  refine aw_aload_n (n := 5) dJ25_init_4 rfl 0 rfl rfl ?_
  refine aw_iload_n (n := 6) dJ25_init_5 rfl 1 rfl rfl ?_
  refine aw_putK (n := 9) (fs' := [.null, .null, .int w, .null, .null, .null, .null, .null, .null, .null, .int 0]) (C0 := RJ27) (T := TJ27) (N := 11) (ci := 27) dJ25_init_6 rfl in_J27 tyJ27 tyJ27_ok nmJ27 q1601 2 (by decide) q1546 (Or.inl rfl) (by first | exact Or.inl rfl | exact Or.inr ⟨rfl, rfl, rfl⟩) rfl hX (by omega) rfl rfl (Nat.le_of_ble_eq_true rfl) rfl rfl (fun y_1 w_1 => ?_)
  have zy_1 : y_1.1 = h.1 := w_1.2.2
  refine aw_aload_n (n := 10) dJ25_init_9 rfl 0 rfl rfl ?_
  refine aw_aload_n (n := 11) dJ25_init_10 rfl 2 rfl rfl ?_
  refine aw_putK (n := 14) (fs' := [.null, .null, .int w, .ref k, .null, .null, .null, .null, .null, .null, .int 0]) (C0 := RJ27) (T := TJ27) (N := 11) (ci := 27) dJ25_init_11 rfl in_J27 tyJ27 tyJ27_ok nmJ27 q1601 3 (by decide) q1550 (Or.inl rfl) (by first | exact Or.inl rfl | exact Or.inr ⟨rfl, rfl, rfl⟩) rfl w_1.1 (by omega) rfl rfl (Nat.le_of_ble_eq_true rfl) rfl rfl (fun y_2 w_2 => ?_)
  have zy_2 : y_2.1 = y_1.1 := w_2.2.2
  refine aw_aload_n (n := 15) dJ25_init_14 rfl 0 rfl rfl ?_
  refine aw_aload_n (n := 16) dJ25_init_15 rfl 3 rfl rfl ?_
  refine aw_putK (n := 19) (fs' := [.null, .null, .int w, .ref k, .ref v, .null, .null, .null, .null, .null, .int 0]) (C0 := RJ27) (T := TJ27) (N := 11) (ci := 27) dJ25_init_16 rfl in_J27 tyJ27 tyJ27_ok nmJ27 q1601 4 (by decide) q1554 (Or.inl rfl) (by first | exact Or.inl rfl | exact Or.inr ⟨rfl, rfl, rfl⟩) rfl w_2.1 (by omega) rfl rfl (Nat.le_of_ble_eq_true rfl) rfl rfl (fun y_3 w_3 => ?_)
  have zy_3 : y_3.1 = y_2.1 := w_3.2.2
  refine aw_aload_n (n := 20) dJ25_init_19 rfl 0 rfl rfl ?_
  refine aw_aloadQ (n := 22) dJ25_init_20 4 rfl rfl ?_
  refine aw_putK (n := 25) (fs' := [.null, .null, .int w, .ref k, .ref v, va_rf xn, .null, .null, .null, .null, .int 0]) (C0 := RJ27) (T := TJ27) (N := 11) (ci := 27) dJ25_init_22 rfl in_J27 tyJ27 tyJ27_ok nmJ27 q1601 5 (by decide) q1556 (Or.inl rfl) (by first | exact Or.inl rfl | exact Or.inr ⟨rfl, rfl, rfl⟩) rfl w_3.1 (by omega) (va_rf_nar _) (va_rf_fit _) (Nat.le_of_ble_eq_true rfl) rfl rfl (fun y_4 w_4 => ?_)
  have zy_4 : y_4.1 = y_3.1 := w_4.2.2
  exact aw_vret dJ25_init_25 rfl ⟨rfl, w_4.1, (Fr.w (Fr.w (Fr.w (Fr.w Fr.rf w_1 (Or.inl rfl)) w_2 (Or.inl rfl)) w_3 (Or.inl rfl)) w_4 (Or.inl rfl)), by omega⟩ ⟨Nat.zero_le _, Nat.zero_le _⟩

abbrev kJ26_init : aK := (yJ26_init, cJ26_init, 5, (Option.none : Option Jvm.ClassFile.FieldType), [])
theorem hcJ26_init : kJ26_init.1.cls ≠ "java/lang/invoke/MethodHandle" ∧ kJ26_init.1.cls ≠ "java/lang/invoke/VarHandle" ∧ (parseMethodDescriptor kJ26_init.1.desc).map (fun d => d.parameters.length) = some 4 := ⟨by decide, by decide, by decide +kernel⟩
theorem hm_leI (G : aG) (h : hH) (x k v : Nat) (w : Int32) (xn : Option Nat) (hbx : gB G ≤ x) (hX : h.2 x = some (hob 27 [.null, .null, .int 0, .null, .null, .null, .null, .null, .null, .null, .int 0])) : Con G kJ26_init [.ref x, .int w, .ref k, .ref v, va_rf xn] h ((3, 48, 0, 0), (fun r h1 => r = none ∧ h1.2 x = some (hob 27 [.null, .null, .int w, .ref k, .ref v, va_rf xn, .null, .null, .null, .null, .int 0]) ∧ Fr (fun q => q = x) h h1 ∧ h1.1 = h.1), nX) := by
  refine Con.of (plainFor_of_name rfl) rfl (by cases xn <;> exact Nat.le_of_ble_eq_true rfl) ?_
  refine AW.eq (lv2 := [(0, .ref x), (1, .int w), (2, .ref k), (3, .ref v), (4, va_rf xn)]) (s2 := []) rfl rfl rfl rfl rfl ?_
  refine aw_know (fun gd hi => ?_)
  have lt_x : x < h.1 := hi.2.1 _ _ hX
  refine aw_aload_n (n := 1) dJ26_init_0 rfl 0 rfl rfl ?_
  refine aw_iload_n (n := 2) dJ26_init_1 rfl 1 rfl rfl ?_
  refine aw_aload_n (n := 3) dJ26_init_2 rfl 2 rfl rfl ?_
  refine aw_aload_n (n := 4) dJ26_init_3 rfl 3 rfl rfl ?_
  refine aw_aloadQ (n := 6) dJ26_init_4 4 rfl rfl ?_
  refine aw_callI (n := 9) (As := [.int w, .ref k, .ref v, va_rf xn]) (rest := []) (K2 := kJ25_init) dJ26_init_6 q1608 q1543 q143 q1544 rfl rfl hcJ25_init (hm_nI27 G h x k v w xn hbx hX) rfl (Nat.le_of_ble_eq_true rfl) ⟨Nat.le_of_ble_eq_true rfl, Nat.le_of_ble_eq_true rfl⟩ ⟨by first | omega | (dsimp only; omega) | decide, by first | omega | (dsimp only; omega) | decide⟩ (fun _ _ _ z => z.elim) rfl (fun r_6 h_6 q_6 => ?_)
  obtain ⟨rfl, hX1, hF1, hz1⟩ := q_6
  have zc_6 : h.1 ≤ h_6.1 := hF1.1
  refine AW.sts (st' := []) rfl ?_
  exact aw_vret dJ26_init_9 rfl ⟨rfl, hX1, hF1, hz1⟩ ⟨Nat.zero_le _, Nat.zero_le _⟩

abbrev kJ27_init : aK := (yJ27_init, cJ27_init, 5, (Option.none : Option Jvm.ClassFile.FieldType), [])
theorem hcJ27_init : kJ27_init.1.cls ≠ "java/lang/invoke/MethodHandle" ∧ kJ27_init.1.cls ≠ "java/lang/invoke/VarHandle" ∧ (parseMethodDescriptor kJ27_init.1.desc).map (fun d => d.parameters.length) = some 4 := ⟨by decide, by decide, by decide +kernel⟩
theorem hm_tnI (G : aG) (h : hH) (x k v : Nat) (w : Int32) (xn : Option Nat) (hbx : gB G ≤ x) (hX : h.2 x = some (hob 27 [.null, .null, .int 0, .null, .null, .null, .null, .null, .null, .null, .int 0])) : Con G kJ27_init [.ref x, .int w, .ref k, .ref v, va_rf xn] h ((4, 72, 0, 0), (fun r h1 => r = none ∧ h1.2 x = some (hob 27 [.null, .null, .int w, .ref k, .ref v, va_rf xn, .null, .null, .null, .null, .int 0]) ∧ Fr (fun q => q = x) h h1 ∧ h1.1 = h.1), nX) := by
  refine Con.of (plainFor_of_name rfl) rfl (by cases xn <;> exact Nat.le_of_ble_eq_true rfl) ?_
  refine AW.eq (lv2 := [(0, .ref x), (1, .int w), (2, .ref k), (3, .ref v), (4, va_rf xn)]) (s2 := []) rfl rfl rfl rfl rfl ?_
  refine aw_know (fun gd hi => ?_)
  have lt_x : x < h.1 := hi.2.1 _ _ hX
  refine aw_aload_n (n := 1) dJ27_init_0 rfl 0 rfl rfl ?_
  refine aw_iload_n (n := 2) dJ27_init_1 rfl 1 rfl rfl ?_
  refine aw_aload_n (n := 3) dJ27_init_2 rfl 2 rfl rfl ?_
  refine aw_aload_n (n := 4) dJ27_init_3 rfl 3 rfl rfl ?_
  refine aw_aloadQ (n := 6) dJ27_init_4 4 rfl rfl ?_
  refine aw_callI (n := 9) (As := [.int w, .ref k, .ref v, va_rf xn]) (rest := []) (K2 := kJ26_init) dJ27_init_6 q1605 q1606 q144 q1607 rfl rfl hcJ26_init (hm_leI G h x k v w xn hbx hX) rfl (Nat.le_of_ble_eq_true rfl) ⟨Nat.le_of_ble_eq_true rfl, Nat.le_of_ble_eq_true rfl⟩ ⟨by first | omega | (dsimp only; omega) | decide, by first | omega | (dsimp only; omega) | decide⟩ (fun _ _ _ z => z.elim) rfl (fun r_6 h_6 q_6 => ?_)
  obtain ⟨rfl, hX1, hF1, hz1⟩ := q_6
  have zc_6 : h.1 ≤ h_6.1 := hF1.1
  refine AW.sts (st' := []) rfl ?_
  exact aw_vret dJ27_init_9 rfl ⟨rfl, hX1, hF1, hz1⟩ ⟨Nat.zero_le _, Nat.zero_le _⟩

abbrev kJ4_newTreeNode : aK := (yJ4_newTreeNode, cJ4_newTreeNode, 5, (Option.some (Jvm.ClassFile.FieldType.object "java/util/HashMap$TreeNode")), [])
theorem hcJ4_newTreeNode : kJ4_newTreeNode.1.cls ≠ "java/lang/invoke/MethodHandle" ∧ kJ4_newTreeNode.1.cls ≠ "java/lang/invoke/VarHandle" ∧ (parseMethodDescriptor kJ4_newTreeNode.1.desc).map (fun d => d.parameters.length) = some 4 := ⟨by decide, by decide, by decide +kernel⟩
theorem dfJ27 : ∀ j, j < 11 → ([.null, .null, .int 0, .null, .null, .null, .null, .null, .null, .null, .int 0] : List Value)[j]? = some (defaultValue (tyJ27 j)) := fun j hj => by
  match j, hj with
  | 0, _ => rfl
  | 1, _ => rfl
  | 2, _ => rfl
  | 3, _ => rfl
  | 4, _ => rfl
  | 5, _ => rfl
  | 6, _ => rfl
  | 7, _ => rfl
  | 8, _ => rfl
  | 9, _ => rfl
  | 10, _ => rfl
theorem hm_newTN (G : aG) (h : hH) (m k v : Nat) (w : Int32) (xn : Option Nat) : Con G kJ4_newTreeNode [.ref m, .int w, .ref k, .ref v, va_rf xn] h ((5, 96, 1, 11), (fun r h1 => ∃ x : Nat, r = some (.ref x) ∧ x = h.1 ∧ gB G ≤ x ∧ h1.2 x = some (hob 27 [.null, .null, .int w, .ref k, .ref v, va_rf xn, .null, .null, .null, .null, .int 0]) ∧ Fr nS h h1 ∧ h1.1 = h.1 + 1), nX) := by
  refine Con.of (plainFor_of_name rfl) rfl (by cases xn <;> exact Nat.le_of_ble_eq_true rfl) ?_
  refine AW.eq (lv2 := [(0, .ref m), (1, .int w), (2, .ref k), (3, .ref v), (4, va_rf xn)]) (s2 := []) rfl rfl rfl rfl rfl ?_
  refine aw_know (fun gd hi => ?_)
  refine aw_newK (n := 3) (C0 := RJ27) (T := TJ27) (N := 11) (ci := 27) (fs := [.null, .null, .int 0, .null, .null, .null, .null, .null, .null, .null, .int 0]) dJ4_newTreeNode_0 rfl in_J27 tyJ27 tyJ27_ok q1211 11 q1601 q145 rfl dfJ27 (by first | omega | (dsimp only; omega) | decide) (by first | omega | (dsimp only; omega) | decide) rfl (by first | rfl | omega) (by first | rfl | omega) (fun y_1 u_1 bu_1 w_1 => ?_)
  have eu_1 : u_1 = h.1 := w_1.2.2.1
  have zy_1 : y_1.1 = u_1 + 1 := w_1.2.2.2
  refine aw_dup (n := 4) dJ4_newTreeNode_3 rfl rfl ?_
  refine aw_iload_n (n := 5) dJ4_newTreeNode_4 rfl 1 rfl rfl ?_
  refine aw_aload_n (n := 6) dJ4_newTreeNode_5 rfl 2 rfl rfl ?_
  refine aw_aload_n (n := 7) dJ4_newTreeNode_6 rfl 3 rfl rfl ?_
  refine aw_aloadQ (n := 9) dJ4_newTreeNode_7 4 rfl rfl ?_
  refine aw_callI (n := 12) (As := [.int w, .ref k, .ref v, va_rf xn]) (rest := [.ref u_1]) (K2 := kJ27_init) dJ4_newTreeNode_9 q1602 q1603 q145 q1604 rfl rfl hcJ27_init (hm_tnI G y_1 u_1 k v w xn bu_1 w_1.1) rfl (Nat.le_of_ble_eq_true rfl) ⟨Nat.le_of_ble_eq_true rfl, Nat.le_of_ble_eq_true rfl⟩ ⟨by first | omega | (dsimp only; omega) | decide, by first | omega | (dsimp only; omega) | decide⟩ (fun _ _ _ z => z.elim) rfl (fun r_9 h_9 q_9 => ?_)
  obtain ⟨rfl, hX1, hF1, hz1⟩ := q_9
  have zc_9 : y_1.1 ≤ h_9.1 := hF1.1
  refine AW.sts (st' := [.ref u_1]) rfl ?_
  exact aw_aret dJ4_newTreeNode_12 rfl (Or.inl ⟨_, rfl⟩) (Or.inr ⟨_, rfl⟩) ⟨u_1, rfl, by omega, bu_1, hX1, (Fr.c (Fr.n Fr.rf w_1) hF1 (fun a9 z9 => by have z9 : a9 = u_1 := z9; rw [z9]; exact (Or.inr (by omega)))), by omega⟩ ⟨(by first | exact Nat.le_refl _ | omega | (dsimp only; omega)), (by first | exact Nat.le_refl _ | omega | (dsimp only; omega))⟩

abbrev kJ4_newNode : aK := (yJ4_newNode, cJ4_newNode, 5, (Option.some (Jvm.ClassFile.FieldType.object "java/util/HashMap$Node")), [])
theorem hcJ4_newNode : kJ4_newNode.1.cls ≠ "java/lang/invoke/MethodHandle" ∧ kJ4_newNode.1.cls ≠ "java/lang/invoke/VarHandle" ∧ (parseMethodDescriptor kJ4_newNode.1.desc).map (fun d => d.parameters.length) = some 4 := ⟨by decide, by decide, by decide +kernel⟩
theorem dfJ25 : ∀ j, j < 4 → ([.int 0, .null, .null, .null] : List Value)[j]? = some (defaultValue (tyJ25 j)) := fun j hj => by
  match j, hj with
  | 0, _ => rfl
  | 1, _ => rfl
  | 2, _ => rfl
  | 3, _ => rfl
theorem hm_newN (G : aG) (h : hH) (m k v : Nat) (w : Int32) (xn : Option Nat) : Con G kJ4_newNode [.ref m, .int w, .ref k, .ref v, va_rf xn] h ((3, 48, 1, 4), (fun r h1 => ∃ x : Nat, r = some (.ref x) ∧ x = h.1 ∧ gB G ≤ x ∧ h1.2 x = some (hob 26 [.int w, .ref k, .ref v, va_rf xn]) ∧ Fr nS h h1 ∧ h1.1 = h.1 + 1), nX) := by
  refine Con.of (plainFor_of_name rfl) rfl (by cases xn <;> exact Nat.le_of_ble_eq_true rfl) ?_
  refine AW.eq (lv2 := [(0, .ref m), (1, .int w), (2, .ref k), (3, .ref v), (4, va_rf xn)]) (s2 := []) rfl rfl rfl rfl rfl ?_
  refine aw_know (fun gd hi => ?_)
  refine aw_newK (n := 3) (C0 := RJ25) (T := TJ25) (N := 4) (ci := 26) (fs := [.int 0, .null, .null, .null]) dJ4_newNode_0 rfl in_J25 tyJ25 tyJ25_ok q1526 4 q1541 q143 rfl dfJ25 (by first | omega | (dsimp only; omega) | decide) (by first | omega | (dsimp only; omega) | decide) rfl (by first | rfl | omega) (by first | rfl | omega) (fun y_1 u_1 bu_1 w_1 => ?_)
  have eu_1 : u_1 = h.1 := w_1.2.2.1
  have zy_1 : y_1.1 = u_1 + 1 := w_1.2.2.2
  refine aw_dup (n := 4) dJ4_newNode_3 rfl rfl ?_
  refine aw_iload_n (n := 5) dJ4_newNode_4 rfl 1 rfl rfl ?_
  refine aw_aload_n (n := 6) dJ4_newNode_5 rfl 2 rfl rfl ?_
  refine aw_aload_n (n := 7) dJ4_newNode_6 rfl 3 rfl rfl ?_
  refine aw_aloadQ (n := 9) dJ4_newNode_7 4 rfl rfl ?_
  refine aw_callI (n := 12) (As := [.int w, .ref k, .ref v, va_rf xn]) (rest := [.ref u_1]) (K2 := kJ25_init) dJ4_newNode_9 q1542 q1543 q143 q1544 rfl rfl hcJ25_init (hm_nI26 G y_1 u_1 k v w xn bu_1 w_1.1) rfl (Nat.le_of_ble_eq_true rfl) ⟨Nat.le_of_ble_eq_true rfl, Nat.le_of_ble_eq_true rfl⟩ ⟨by first | omega | (dsimp only; omega) | decide, by first | omega | (dsimp only; omega) | decide⟩ (fun _ _ _ z => z.elim) rfl (fun r_9 h_9 q_9 => ?_)
  obtain ⟨rfl, hX1, hF1, hz1⟩ := q_9
  have zc_9 : y_1.1 ≤ h_9.1 := hF1.1
  refine AW.sts (st' := [.ref u_1]) rfl ?_
  exact aw_aret dJ4_newNode_12 rfl (Or.inl ⟨_, rfl⟩) (Or.inr ⟨_, rfl⟩) ⟨u_1, rfl, by omega, bu_1, hX1, (Fr.c (Fr.n Fr.rf w_1) hF1 (fun a9 z9 => by have z9 : a9 = u_1 := z9; rw [z9]; exact (Or.inr (by omega)))), by omega⟩ ⟨(by first | exact Nat.le_refl _ | omega | (dsimp only; omega)), (by first | exact Nat.le_refl _ | omega | (dsimp only; omega))⟩

abbrev kJ27_getTreeNode : aK := (yJ27_getTreeNode, cJ27_getTreeNode, 3, (Option.some (Jvm.ClassFile.FieldType.object "java/util/HashMap$TreeNode")), [])
theorem hcJ27_getTreeNode : kJ27_getTreeNode.1.cls ≠ "java/lang/invoke/MethodHandle" ∧ kJ27_getTreeNode.1.cls ≠ "java/lang/invoke/VarHandle" ∧ (parseMethodDescriptor kJ27_getTreeNode.1.desc).map (fun d => d.parameters.length) = some 2 := ⟨by decide, by decide, by decide +kernel⟩
theorem hm_gtn (G : aG) (h : hH) (N : Nat → Prop) (κ : Nat → Int32 × Nat × Nat) (nx pa lf rt pv : oF) (rd : Nat → Bool) (hTP : TPic G h N κ nx pa lf rt pv rd) (tx : Nat → List Nat) (root : Nat) (bl bh : oF) (ht : Nat → Nat) (B : Nat) (hB : BT (ltM tx) N pa lf rt root bl bh ht B) (hK : KP h N κ tx) (k u : Nat) (bs : List Nat) (hS : isSt h k u bs (hashT bs) (zfT bs)) (hb8 : bs.length ≤ 8) (p0 : Nat) (hp0 : N p0) : Con G kJ27_getTreeNode [.ref p0, .int (spT bs), .ref k] h ((14, 406, 0, 0), (fun r h1 => ((∃ z, N z ∧ tx z = bs ∧ r = some (.ref z)) ∨ ((∀ z, N z → tx z ≠ bs) ∧ r = some .null)) ∧ h = h1), nX) := by
  refine Con.of (plainFor_of_name rfl) rfl (Nat.le_of_ble_eq_true rfl) ?_
  refine AW.eq (lv2 := [(0, .ref p0), (1, .int (spT bs)), (2, .ref k)]) (s2 := []) rfl rfl rfl rfl rfl ?_
  refine aw_know (fun gd hi => ?_)
  refine aw_aload_n (n := 1) dJ27_getTreeNode_0 rfl 0 rfl rfl ?_
  rcases optc (pa p0) with hq_1 | ⟨p1_1, hq_1⟩
  · skip
    refine aw_getf (n := 4) (v := .null) (C0 := RJ27) (T := TJ27) dJ27_getTreeNode_1 rfl 6 q1609 (Or.inl rfl) (hTP p0 hp0).1 (congrArg (fun z9 => some (va_rf z9)) (show pa p0 = none from by exact hq_1)) rfl ?_
    refine aw_ifnullN (tgt := 14) dJ27_getTreeNode_4 (by decide) ?_
    refine aw_aload_n (n := 15) dJ27_getTreeNode_14 rfl 0 rfl rfl ?_
    refine aw_iload_n (n := 16) dJ27_getTreeNode_15 rfl 1 rfl rfl ?_
    refine aw_aload_n (n := 17) dJ27_getTreeNode_16 rfl 2 rfl rfl ?_
    refine aw_null (n := 18) dJ27_getTreeNode_17 rfl ?_
    have er : p0 = root := BT.top hB hp0 hq_1
    refine aw_callV (n := 21) (C0 := RJ27) (As := [.int (spT bs), .ref k, .null]) (rest := []) (K2 := kJ27_find) dJ27_getTreeNode_18 q1220 q1221 q1222 q145 q1223 ⟨rfl, hcJ27_find⟩ rfl (hTP p0 hp0).1 (hm_find G h N κ nx pa lf rt pv rd hTP tx root bl bh ht B hB hK k u bs hS hb8 p0 hp0 (by rw [er]; exact tgt.root hB tx bs)) rfl (Nat.le_of_ble_eq_true rfl) ⟨Nat.le_of_ble_eq_true rfl, Nat.le_of_ble_eq_true rfl⟩ ⟨by first | omega | (dsimp only; omega) | decide, by first | omega | (dsimp only; omega) | decide⟩ (fun _ _ _ z => z.elim) rfl (fun r_18 h_18 q_18 => ?_)
    obtain ⟨hR, rfl⟩ := q_18
    rcases hR with ⟨z, hz, ez, rfl⟩ | ⟨hno, rfl⟩
    · skip
      refine AW.sts (st' := [.ref z]) rfl ?_
      exact aw_aret dJ27_getTreeNode_21 rfl (Or.inl ⟨_, rfl⟩) (Or.inr ⟨_, rfl⟩) ⟨Or.inl ⟨z, hz, ez, rfl⟩, rfl⟩ ⟨Nat.zero_le _, Nat.zero_le _⟩
    · skip
      refine AW.sts (st' := [.null]) rfl ?_
      exact aw_aret dJ27_getTreeNode_21 rfl (Or.inl ⟨_, rfl⟩) (Or.inl rfl) ⟨Or.inr ⟨hno, rfl⟩, rfl⟩ ⟨Nat.zero_le _, Nat.zero_le _⟩
  · skip
    have k_p1_1 := BT.up hB hp0 hq_1
    refine aw_getf (n := 4) (v := .ref p1_1) (C0 := RJ27) (T := TJ27) dJ27_getTreeNode_1 rfl 6 q1609 (Or.inl rfl) (hTP p0 hp0).1 (congrArg (fun z9 => some (va_rf z9)) (show pa p0 = some p1_1 from by exact hq_1)) rfl ?_
    refine aw_ifnull (n := 7) dJ27_getTreeNode_4 rfl ?_
    refine aw_aload_n (n := 8) dJ27_getTreeNode_7 rfl 0 rfl rfl ?_
    refine aw_callV (n := 11) (C0 := RJ27) (As := []) (rest := []) (K2 := kJ27_root) dJ27_getTreeNode_8 q1216 q1217 q1218 q145 q1219 ⟨rfl, hcJ27_root⟩ rfl (hTP p0 hp0).1 (hm_root G h N κ nx pa lf rt pv rd hTP tx root bl bh ht B hB hK p0 hp0) rfl (Nat.le_of_ble_eq_true rfl) ⟨Nat.le_of_ble_eq_true rfl, Nat.le_of_ble_eq_true rfl⟩ ⟨by first | omega | (dsimp only; omega) | decide, by first | omega | (dsimp only; omega) | decide⟩ (fun _ _ _ z => z.elim) rfl (fun r_8 h_8 q_8 => ?_)
    obtain ⟨rfl, rfl⟩ := q_8
    refine AW.sts (st' := [.ref root]) rfl ?_
    refine aw_goto (tgt := 15) dJ27_getTreeNode_11 (by decide) ?_
    refine aw_iload_n (n := 16) dJ27_getTreeNode_15 rfl 1 rfl rfl ?_
    refine aw_aload_n (n := 17) dJ27_getTreeNode_16 rfl 2 rfl rfl ?_
    refine aw_null (n := 18) dJ27_getTreeNode_17 rfl ?_
    refine aw_callV (n := 21) (C0 := RJ27) (As := [.int (spT bs), .ref k, .null]) (rest := []) (K2 := kJ27_find) dJ27_getTreeNode_18 q1220 q1221 q1222 q145 q1223 ⟨rfl, hcJ27_find⟩ rfl (hTP root hB.1).1 (hm_find G h N κ nx pa lf rt pv rd hTP tx root bl bh ht B hB hK k u bs hS hb8 root hB.1 (tgt.root hB tx bs)) rfl (Nat.le_of_ble_eq_true rfl) ⟨Nat.le_of_ble_eq_true rfl, Nat.le_of_ble_eq_true rfl⟩ ⟨by first | omega | (dsimp only; omega) | decide, by first | omega | (dsimp only; omega) | decide⟩ (fun _ _ _ z => z.elim) rfl (fun r_18 h_18 q_18 => ?_)
    obtain ⟨hR, rfl⟩ := q_18
    rcases hR with ⟨z, hz, ez, rfl⟩ | ⟨hno, rfl⟩
    · skip
      refine AW.sts (st' := [.ref z]) rfl ?_
      exact aw_aret dJ27_getTreeNode_21 rfl (Or.inl ⟨_, rfl⟩) (Or.inr ⟨_, rfl⟩) ⟨Or.inl ⟨z, hz, ez, rfl⟩, rfl⟩ ⟨Nat.zero_le _, Nat.zero_le _⟩
    · skip
      refine AW.sts (st' := [.null]) rfl ?_
      exact aw_aret dJ27_getTreeNode_21 rfl (Or.inl ⟨_, rfl⟩) (Or.inl rfl) ⟨Or.inr ⟨hno, rfl⟩, rfl⟩ ⟨Nat.zero_le _, Nat.zero_le _⟩

/-- next and previous stay within the nodes -/
def LW (N : Nat → Prop) (nx pv : oF) : Prop := ∀ x, N x → (∀ y, nx x = some y → N y) ∧ ∀ y, pv x = some y → N y
theorem LW.un {N : Nat → Prop} {nx pv : oF} (h : LW N nx pv) (a : Nat) {v : Option Nat} (hv : ∀ y, v = some y → N y) : LW N (up nx a v) pv := fun x hx => ⟨fun y hy => by
    unfold up at hy
    by_cases e : x = a
    · rw [if_pos e] at hy; exact hv y hy
    · rw [if_neg e] at hy; exact (h x hx).1 y hy, (h x hx).2⟩
theorem LW.uq {N : Nat → Prop} {nx pv : oF} (h : LW N nx pv) (a : Nat) {v : Option Nat} (hv : ∀ y, v = some y → N y) : LW N nx (up pv a v) := fun x hx => ⟨(h x hx).1, fun y hy => by
    unfold up at hy
    by_cases e : x = a
    · rw [if_pos e] at hy; exact hv y hy
    · rw [if_neg e] at hy; exact (h x hx).2 y hy⟩
theorem nn_in {N : Nat → Prop} : ∀ y : Nat, (none : Option Nat) = some y → N y := fun _ e => nomatch e
theorem sm_in {N : Nat → Prop} {a : Nat} (h : N a) : ∀ y : Nat, some a = some y → N y := fun y e => by cases e; exact h
abbrev kJ27_moveRootToFront : aK := (yJ27_moveRootToFront, cJ27_moveRootToFront, 7, (Option.none : Option Jvm.ClassFile.FieldType), [])
theorem hcJ27_moveRootToFront : kJ27_moveRootToFront.1.cls ≠ "java/lang/invoke/MethodHandle" ∧ kJ27_moveRootToFront.1.cls ≠ "java/lang/invoke/VarHandle" ∧ (parseMethodDescriptor kJ27_moveRootToFront.1.desc).map (fun d => d.parameters.length) = some 2 := ⟨by decide, by decide, by decide +kernel⟩
theorem hm_mrf (G : aG) (h : hH) (N : Nat → Prop) (κ : Nat → Int32 × Nat × Nat) (nx pa lf rt pv : oF) (rd : Nat → Bool) (hTP : TPic G h N κ nx pa lf rt pv rd) (t n i r0 r : Nat) (f : Nat → Value) (hA : h.2 t = some (har 5 n f)) (hbt : gB G ≤ t) (hn : nOK n) (hi0 : i < n) (hix : (nI n - 1) &&& (κ r).1 = nI i) (hf : f i = .ref r0) (hr0 : N r0) (hr : N r) (hW : LW N nx pv) (hn0 : nx r0 ≠ none) : Con G kJ27_moveRootToFront [.ref t, .ref r] h ((1, 0, 0, 0), (fun z h1 => z = none ∧ ∃ nx1 pv1 : oF, TPic G h1 N κ nx1 pa lf rt pv1 rd ∧ LW N nx1 pv1 ∧ nx1 r ≠ none ∧ (∃ f1 : Nat → Value, h1.2 t = some (har 5 n f1) ∧ f1 i = .ref r ∧ ∀ j, j ≠ i → f1 j = f j) ∧ Fr (fun q => N q ∨ q = t) h h1 ∧ h1.1 = h.1), nX) := by
  have hn9 : n ≤ 64 := by rcases hn with e | e | e <;> omega
  refine Con.of (plainFor_of_name rfl) rfl (Nat.le_of_ble_eq_true rfl) ?_
  refine AW.eq (lv2 := [(0, .ref t), (1, .ref r)]) (s2 := []) rfl rfl rfl rfl rfl ?_
  refine aw_know (fun gd hi => ?_)
  have lt_t : t < h.1 := hi.2.1 _ _ hA
  refine aw_aload_n (n := 1) dJ27_moveRootToFront_0 rfl 1 rfl rfl ?_
  refine aw_ifnull (n := 4) dJ27_moveRootToFront_1 rfl ?_
  refine aw_aload_n (n := 5) dJ27_moveRootToFront_4 rfl 0 rfl rfl ?_
  refine aw_ifnull (n := 8) dJ27_moveRootToFront_5 rfl ?_
  refine aw_aload_n (n := 9) dJ27_moveRootToFront_8 rfl 0 rfl rfl ?_
  refine aw_alen (n := 10) (v := nI n) dJ27_moveRootToFront_9 rfl hA rfl rfl ?_
  refine aw_dup (n := 11) dJ27_moveRootToFront_10 rfl rfl ?_
  refine aw_istore_n (n := 12) (lv' := [(2, .int (nI n)), (0, .ref t), (1, .ref r)]) dJ27_moveRootToFront_11 rfl (by decide) rfl rfl ?_
  refine aw_if_le (n := 15) (tgt := 123) dJ27_moveRootToFront_12 (by decide) rfl (fun c_12 => ?_) (fun c_12 => ?_)
  · skip
    exact absurd c_12 (nI_nle (by omega) (by rcases hn with e | e | e <;> omega))
  · skip
    have n_12 : ¬ (n ≤ 0) := fun z => c_12 (by have y := (nI_leI (a := n) (b := 0) (by omega) (by omega)).mpr z; rw [← ((by rfl) : (0 : Int32) = nI 0)] at y; exact y)
    refine aw_iload_n (n := 16) dJ27_moveRootToFront_15 rfl 0 rfl rfl ?_
    refine aw_iconst (n := 17) (v := 1) dJ27_moveRootToFront_16 (by decide) rfl ?_
    refine aw_isub (n := 18) dJ27_moveRootToFront_17 rfl ?_
    refine aw_aload_n (n := 19) dJ27_moveRootToFront_18 rfl 2 rfl rfl ?_
    refine aw_getf (n := 22) (v := .int ((κ r).1)) (C0 := RJ27) (T := TJ27) dJ27_moveRootToFront_19 rfl 2 q1547 (Or.inr q1548) (hTP r hr).1 rfl rfl ?_
    refine aw_iand (n := 23) dJ27_moveRootToFront_22 rfl ?_
    refine AW.sts (st' := [.int (nI i)]) (by rw [hix]) ?_
    refine aw_istore_n (n := 24) (lv' := [(3, .int (nI i)), (2, .int (nI n)), (0, .ref t), (1, .ref r)]) dJ27_moveRootToFront_23 rfl (by decide) rfl rfl ?_
    refine aw_aload_n (n := 25) dJ27_moveRootToFront_24 rfl 2 rfl rfl ?_
    refine aw_iload_n (n := 26) dJ27_moveRootToFront_25 rfl 0 rfl rfl ?_
    refine aw_aald (n := 27) (v := .ref r0) dJ27_moveRootToFront_26 rfl rfl i rfl hA hi0 (by rcases hn with e | e | e <;> omega) hf rfl ?_
    refine aw_cast (n := 30) dJ27_moveRootToFront_27 q1532 rfl (hTP r0 hr0).1 (Or.inl rfl) rfl ?_
    refine aw_astore (n := 32) (lv' := [(4, .ref r0), (3, .int (nI i)), (2, .int (nI n)), (0, .ref t), (1, .ref r)]) dJ27_moveRootToFront_30 (by decide) rfl rfl ?_
    refine aw_aload_n (n := 33) dJ27_moveRootToFront_32 rfl 4 rfl rfl ?_
    refine aw_aload (n := 35) dJ27_moveRootToFront_33 0 rfl rfl ?_
    refine aw_acmp_eq (n := 38) (x := (some r)) (y := (some r0)) (tgt := 102) dJ27_moveRootToFront_35 (by decide) rfl (fun c_35 => ?_) (fun c_35 => ?_)
    · skip
      have er : r = r0 := by simpa using c_35
      refine aw_gets (n := 105) (v := .int 1) dJ27_moveRootToFront_102 34 rfl q1587 rfl gd.2.2.2.2.2.2.2.1.2.2.1.2.2.1 rfl ?_
      refine aw_if_ne (n := 108) (tgt := 123) dJ27_moveRootToFront_105 (by decide) rfl (fun c_105 => ?_) (fun c_105 => ?_)
      · skip
        exact aw_vret dJ27_moveRootToFront_123 rfl ⟨rfl, nx, pv, hTP, hW, by rw [er]; exact hn0, ⟨f, hA, by rw [← er] at hf; exact hf, fun j hj => rfl⟩, Fr.rf, by omega⟩ ⟨Nat.zero_le _, Nat.zero_le _⟩
      · skip
        exact absurd c_105 (by decide +kernel)
    · skip
      have nr : r ≠ r0 := fun e => c_35 (by rw [e])
      refine aw_aload_n (n := 39) dJ27_moveRootToFront_38 rfl 3 rfl rfl ?_
      refine aw_iload_n (n := 40) dJ27_moveRootToFront_39 rfl 1 rfl rfl ?_
      refine aw_aload_n (n := 41) dJ27_moveRootToFront_40 rfl 4 rfl rfl ?_
      refine aw_aastK (n := 42) (ti := 5) (N := n) (f' := updV f i (.ref r)) dJ27_moveRootToFront_41 rfl i rfl hA hbt hi0 (by rcases hn with e | e | e <;> omega) rfl (hTP r hr).1 (Or.inr q3301) rfl rfl (fun y_1 w_1 => ?_)
      have zy_1 : y_1.1 = h.1 := w_1.2.2
      have hT42 : TPic G y_1 N κ nx pa lf rt pv rd := fun x hx => ⟨(w_1.2.1 x (ne_kind (hTP x hx).1 hA ob_ar)).trans (hTP x hx).1, (hTP x hx).2⟩
      refine aw_aload_n (n := 43) dJ27_moveRootToFront_42 rfl 4 rfl rfl ?_
      rcases optc (pv r) with hq_2 | ⟨p43_2, hq_2⟩
      · skip
        refine aw_getf (n := 46) (v := .null) (C0 := RJ27) (T := TJ27) dJ27_moveRootToFront_43 rfl 9 q1612 (Or.inl rfl) (hT42 r hr).1 (congrArg (fun z9 => some (va_rf z9)) (show pv r = none from by exact hq_2)) rfl ?_
        refine aw_astoreN (n := 48) (lv' := [(6, .null), (4, .ref r0), (3, .int (nI i)), (2, .int (nI n)), (0, .ref t), (1, .ref r)]) dJ27_moveRootToFront_46 (by decide) rfl rfl ?_
        refine aw_aload_n (n := 49) dJ27_moveRootToFront_48 rfl 5 rfl rfl ?_
        rcases optc (nx r) with hq_3 | ⟨n49_3, hq_3⟩
        · skip
          refine aw_getf (n := 52) (v := .null) (C0 := RJ27) (T := TJ27) dJ27_moveRootToFront_49 rfl 5 q1557 (Or.inr q1558) (hT42 r hr).1 (congrArg (fun z9 => some (va_rf z9)) (show nx r = none from by exact hq_3)) rfl ?_
          refine aw_dup (n := 53) dJ27_moveRootToFront_52 rfl rfl ?_
          refine aw_astoreN (n := 55) (lv' := [(5, .null), (6, .null), (4, .ref r0), (3, .int (nI i)), (2, .int (nI n)), (0, .ref t), (1, .ref r)]) dJ27_moveRootToFront_53 (by decide) rfl rfl ?_
          refine aw_ifnullN (tgt := 68) dJ27_moveRootToFront_55 (by decide) ?_
          refine aw_aloadN (n := 70) dJ27_moveRootToFront_68 1 rfl rfl ?_
          refine aw_ifnullN (tgt := 80) dJ27_moveRootToFront_70 (by decide) ?_
          refine aw_aload (n := 82) dJ27_moveRootToFront_80 2 rfl rfl ?_
          refine aw_ifnull (n := 85) dJ27_moveRootToFront_82 rfl ?_
          refine aw_aload (n := 87) dJ27_moveRootToFront_85 2 rfl rfl ?_
          refine aw_aload_n (n := 88) dJ27_moveRootToFront_87 rfl 6 rfl rfl ?_
          refine aw_putK (n := 91) (fs' := [.null, .null, .int (κ r0).1, .ref (κ r0).2.1, .ref (κ r0).2.2, va_rf (nx r0), va_rf (pa r0), va_rf (lf r0), va_rf (rt r0), va_rf (some r), .int (bI (rd r0))]) (C0 := RJ27) (T := TJ27) (N := 11) (ci := 27) dJ27_moveRootToFront_88 rfl in_J27 tyJ27 tyJ27_ok nmJ27 q1601 9 (by decide) q1612 (Or.inl rfl) (Or.inl rfl) rfl (hT42 r0 hr0).1 (hT42 r0 hr0).2 rfl rfl (Nat.le_of_ble_eq_true rfl) rfl rfl (fun y_4 w_4 => ?_)
          have zy_4 : y_4.1 = y_1.1 := w_4.2.2
          have hT_4 := TPic.ppv (v := some r) hT42 w_4
          refine aw_aload_n (n := 92) dJ27_moveRootToFront_91 rfl 6 rfl rfl ?_
          refine aw_aload (n := 94) dJ27_moveRootToFront_92 2 rfl rfl ?_
          refine aw_putK (n := 97) (fs' := [.null, .null, .int (κ r).1, .ref (κ r).2.1, .ref (κ r).2.2, va_rf (some r0), va_rf (pa r), va_rf (lf r), va_rf (rt r), va_rf ((up pv r0 (some r)) r), .int (bI (rd r))]) (C0 := RJ27) (T := TJ27) (N := 11) (ci := 27) dJ27_moveRootToFront_94 rfl in_J27 tyJ27 tyJ27_ok nmJ27 q1601 5 (by decide) q1557 (Or.inr q1558) (Or.inl rfl) rfl (hT_4 r hr).1 (hT_4 r hr).2 rfl rfl (Nat.le_of_ble_eq_true rfl) rfl rfl (fun y_5 w_5 => ?_)
          have zy_5 : y_5.1 = y_4.1 := w_5.2.2
          have hT_5 := TPic.pnx (v := some r0) hT_4 w_5
          refine aw_aload_n (n := 98) dJ27_moveRootToFront_97 rfl 6 rfl rfl ?_
          refine aw_null (n := 99) dJ27_moveRootToFront_98 rfl ?_
          refine aw_putK (n := 102) (fs' := [.null, .null, .int (κ r).1, .ref (κ r).2.1, .ref (κ r).2.2, va_rf ((up nx r (some r0)) r), va_rf (pa r), va_rf (lf r), va_rf (rt r), va_rf none, .int (bI (rd r))]) (C0 := RJ27) (T := TJ27) (N := 11) (ci := 27) dJ27_moveRootToFront_99 rfl in_J27 tyJ27 tyJ27_ok nmJ27 q1601 9 (by decide) q1612 (Or.inl rfl) (Or.inl rfl) rfl (hT_5 r hr).1 (hT_5 r hr).2 rfl rfl (Nat.le_of_ble_eq_true rfl) rfl rfl (fun y_6 w_6 => ?_)
          have zy_6 : y_6.1 = y_5.1 := w_6.2.2
          have hT_6 := TPic.ppv (v := none) hT_5 w_6
          refine aw_gets (n := 105) (v := .int 1) dJ27_moveRootToFront_102 34 rfl q1587 rfl gd.2.2.2.2.2.2.2.1.2.2.1.2.2.1 rfl ?_
          refine aw_if_ne (n := 108) (tgt := 123) dJ27_moveRootToFront_105 (by decide) rfl (fun c_105_2 => ?_) (fun c_105_2 => ?_)
          · skip
            have f_7 : y_6.2 t = some (har 5 n (updV f i (.ref r))) := (w_6.k (ne_kind hA (hTP r hr).1 ar_ob) (w_5.k (ne_kind hA (hTP r hr).1 ar_ob) (w_4.k (ne_kind hA (hTP r0 hr0).1 ar_ob) w_1.1)))
            exact aw_vret dJ27_moveRootToFront_123 rfl ⟨rfl, (up nx r (some r0)), (up (up pv r0 (some r)) r none), hT_6, (LW.uq (LW.uq (LW.un hW r (sm_in hr0)) r0 (sm_in hr)) r nn_in), by simp [up], ⟨_, f_7, by simp [updV], fun j hj => by simp [updV, hj]⟩, (Fr.w (Fr.w (Fr.w (Fr.w Fr.rf w_1 (Or.inl (Or.inr rfl))) w_4 (Or.inl (Or.inl hr0))) w_5 (Or.inl (Or.inl hr))) w_6 (Or.inl (Or.inl hr))), by omega⟩ ⟨Nat.zero_le _, Nat.zero_le _⟩
          · skip
            exact absurd c_105_2 (by decide +kernel)
        · skip
          have k_n49_3 : N n49_3 := (hW r hr).1 n49_3 hq_3
          refine aw_getf (n := 52) (v := .ref n49_3) (C0 := RJ27) (T := TJ27) dJ27_moveRootToFront_49 rfl 5 q1557 (Or.inr q1558) (hT42 r hr).1 (congrArg (fun z9 => some (va_rf z9)) (show nx r = some n49_3 from by exact hq_3)) rfl ?_
          refine aw_dup (n := 53) dJ27_moveRootToFront_52 rfl rfl ?_
          refine aw_astore (n := 55) (lv' := [(5, .ref n49_3), (6, .null), (4, .ref r0), (3, .int (nI i)), (2, .int (nI n)), (0, .ref t), (1, .ref r)]) dJ27_moveRootToFront_53 (by decide) rfl rfl ?_
          refine aw_ifnull (n := 58) dJ27_moveRootToFront_55 rfl ?_
          refine aw_aload (n := 60) dJ27_moveRootToFront_58 0 rfl rfl ?_
          refine aw_cast (n := 63) dJ27_moveRootToFront_60 q1532 rfl (hT42 n49_3 k_n49_3).1 (Or.inl rfl) rfl ?_
          refine aw_aloadN (n := 65) dJ27_moveRootToFront_63 1 rfl rfl ?_
          refine aw_putK (n := 68) (fs' := [.null, .null, .int (κ n49_3).1, .ref (κ n49_3).2.1, .ref (κ n49_3).2.2, va_rf (nx n49_3), va_rf (pa n49_3), va_rf (lf n49_3), va_rf (rt n49_3), va_rf none, .int (bI (rd n49_3))]) (C0 := RJ27) (T := TJ27) (N := 11) (ci := 27) dJ27_moveRootToFront_65 rfl in_J27 tyJ27 tyJ27_ok nmJ27 q1601 9 (by decide) q1612 (Or.inl rfl) (Or.inl rfl) rfl (hT42 n49_3 k_n49_3).1 (hT42 n49_3 k_n49_3).2 rfl rfl (Nat.le_of_ble_eq_true rfl) rfl rfl (fun y_8 w_8 => ?_)
          have zy_8 : y_8.1 = y_1.1 := w_8.2.2
          have hT_8 := TPic.ppv (v := none) hT42 w_8
          refine aw_aloadN (n := 70) dJ27_moveRootToFront_68 1 rfl rfl ?_
          refine aw_ifnullN (tgt := 80) dJ27_moveRootToFront_70 (by decide) ?_
          refine aw_aload (n := 82) dJ27_moveRootToFront_80 2 rfl rfl ?_
          refine aw_ifnull (n := 85) dJ27_moveRootToFront_82 rfl ?_
          refine aw_aload (n := 87) dJ27_moveRootToFront_85 2 rfl rfl ?_
          refine aw_aload_n (n := 88) dJ27_moveRootToFront_87 rfl 6 rfl rfl ?_
          refine aw_putK (n := 91) (fs' := [.null, .null, .int (κ r0).1, .ref (κ r0).2.1, .ref (κ r0).2.2, va_rf (nx r0), va_rf (pa r0), va_rf (lf r0), va_rf (rt r0), va_rf (some r), .int (bI (rd r0))]) (C0 := RJ27) (T := TJ27) (N := 11) (ci := 27) dJ27_moveRootToFront_88 rfl in_J27 tyJ27 tyJ27_ok nmJ27 q1601 9 (by decide) q1612 (Or.inl rfl) (Or.inl rfl) rfl (hT_8 r0 hr0).1 (hT_8 r0 hr0).2 rfl rfl (Nat.le_of_ble_eq_true rfl) rfl rfl (fun y_9 w_9 => ?_)
          have zy_9 : y_9.1 = y_8.1 := w_9.2.2
          have hT_9 := TPic.ppv (v := some r) hT_8 w_9
          refine aw_aload_n (n := 92) dJ27_moveRootToFront_91 rfl 6 rfl rfl ?_
          refine aw_aload (n := 94) dJ27_moveRootToFront_92 2 rfl rfl ?_
          refine aw_putK (n := 97) (fs' := [.null, .null, .int (κ r).1, .ref (κ r).2.1, .ref (κ r).2.2, va_rf (some r0), va_rf (pa r), va_rf (lf r), va_rf (rt r), va_rf ((up (up pv n49_3 none) r0 (some r)) r), .int (bI (rd r))]) (C0 := RJ27) (T := TJ27) (N := 11) (ci := 27) dJ27_moveRootToFront_94 rfl in_J27 tyJ27 tyJ27_ok nmJ27 q1601 5 (by decide) q1557 (Or.inr q1558) (Or.inl rfl) rfl (hT_9 r hr).1 (hT_9 r hr).2 rfl rfl (Nat.le_of_ble_eq_true rfl) rfl rfl (fun y_10 w_10 => ?_)
          have zy_10 : y_10.1 = y_9.1 := w_10.2.2
          have hT_10 := TPic.pnx (v := some r0) hT_9 w_10
          refine aw_aload_n (n := 98) dJ27_moveRootToFront_97 rfl 6 rfl rfl ?_
          refine aw_null (n := 99) dJ27_moveRootToFront_98 rfl ?_
          refine aw_putK (n := 102) (fs' := [.null, .null, .int (κ r).1, .ref (κ r).2.1, .ref (κ r).2.2, va_rf ((up nx r (some r0)) r), va_rf (pa r), va_rf (lf r), va_rf (rt r), va_rf none, .int (bI (rd r))]) (C0 := RJ27) (T := TJ27) (N := 11) (ci := 27) dJ27_moveRootToFront_99 rfl in_J27 tyJ27 tyJ27_ok nmJ27 q1601 9 (by decide) q1612 (Or.inl rfl) (Or.inl rfl) rfl (hT_10 r hr).1 (hT_10 r hr).2 rfl rfl (Nat.le_of_ble_eq_true rfl) rfl rfl (fun y_11 w_11 => ?_)
          have zy_11 : y_11.1 = y_10.1 := w_11.2.2
          have hT_11 := TPic.ppv (v := none) hT_10 w_11
          refine aw_gets (n := 105) (v := .int 1) dJ27_moveRootToFront_102 34 rfl q1587 rfl gd.2.2.2.2.2.2.2.1.2.2.1.2.2.1 rfl ?_
          refine aw_if_ne (n := 108) (tgt := 123) dJ27_moveRootToFront_105 (by decide) rfl (fun c_105_3 => ?_) (fun c_105_3 => ?_)
          · skip
            have f_12 : y_11.2 t = some (har 5 n (updV f i (.ref r))) := (w_11.k (ne_kind hA (hTP r hr).1 ar_ob) (w_10.k (ne_kind hA (hTP r hr).1 ar_ob) (w_9.k (ne_kind hA (hTP r0 hr0).1 ar_ob) (w_8.k (ne_kind hA (hTP n49_3 k_n49_3).1 ar_ob) w_1.1))))
            exact aw_vret dJ27_moveRootToFront_123 rfl ⟨rfl, (up nx r (some r0)), (up (up (up pv n49_3 none) r0 (some r)) r none), hT_11, (LW.uq (LW.uq (LW.uq (LW.un hW r (sm_in hr0)) n49_3 nn_in) r0 (sm_in hr)) r nn_in), by simp [up], ⟨_, f_12, by simp [updV], fun j hj => by simp [updV, hj]⟩, (Fr.w (Fr.w (Fr.w (Fr.w (Fr.w Fr.rf w_1 (Or.inl (Or.inr rfl))) w_8 (Or.inl (Or.inl k_n49_3))) w_9 (Or.inl (Or.inl hr0))) w_10 (Or.inl (Or.inl hr))) w_11 (Or.inl (Or.inl hr))), by omega⟩ ⟨Nat.zero_le _, Nat.zero_le _⟩
          · skip
            exact absurd c_105_3 (by decide +kernel)
      · skip
        have k_p43_2 : N p43_2 := (hW r hr).2 p43_2 hq_2
        refine aw_getf (n := 46) (v := .ref p43_2) (C0 := RJ27) (T := TJ27) dJ27_moveRootToFront_43 rfl 9 q1612 (Or.inl rfl) (hT42 r hr).1 (congrArg (fun z9 => some (va_rf z9)) (show pv r = some p43_2 from by exact hq_2)) rfl ?_
        refine aw_astore (n := 48) (lv' := [(6, .ref p43_2), (4, .ref r0), (3, .int (nI i)), (2, .int (nI n)), (0, .ref t), (1, .ref r)]) dJ27_moveRootToFront_46 (by decide) rfl rfl ?_
        refine aw_aload_n (n := 49) dJ27_moveRootToFront_48 rfl 5 rfl rfl ?_
        rcases optc (nx r) with hq_13 | ⟨n49_13, hq_13⟩
        · skip
          refine aw_getf (n := 52) (v := .null) (C0 := RJ27) (T := TJ27) dJ27_moveRootToFront_49 rfl 5 q1557 (Or.inr q1558) (hT42 r hr).1 (congrArg (fun z9 => some (va_rf z9)) (show nx r = none from by exact hq_13)) rfl ?_
          refine aw_dup (n := 53) dJ27_moveRootToFront_52 rfl rfl ?_
          refine aw_astoreN (n := 55) (lv' := [(5, .null), (6, .ref p43_2), (4, .ref r0), (3, .int (nI i)), (2, .int (nI n)), (0, .ref t), (1, .ref r)]) dJ27_moveRootToFront_53 (by decide) rfl rfl ?_
          refine aw_ifnullN (tgt := 68) dJ27_moveRootToFront_55 (by decide) ?_
          refine aw_aload (n := 70) dJ27_moveRootToFront_68 1 rfl rfl ?_
          refine aw_ifnull (n := 73) dJ27_moveRootToFront_70 rfl ?_
          refine aw_aload (n := 75) dJ27_moveRootToFront_73 1 rfl rfl ?_
          refine aw_aloadN (n := 77) dJ27_moveRootToFront_75 0 rfl rfl ?_
          refine aw_putK (n := 80) (fs' := [.null, .null, .int (κ p43_2).1, .ref (κ p43_2).2.1, .ref (κ p43_2).2.2, va_rf none, va_rf (pa p43_2), va_rf (lf p43_2), va_rf (rt p43_2), va_rf (pv p43_2), .int (bI (rd p43_2))]) (C0 := RJ27) (T := TJ27) (N := 11) (ci := 27) dJ27_moveRootToFront_77 rfl in_J27 tyJ27 tyJ27_ok nmJ27 q1601 5 (by decide) q1557 (Or.inr q1558) (Or.inl rfl) rfl (hT42 p43_2 k_p43_2).1 (hT42 p43_2 k_p43_2).2 rfl rfl (Nat.le_of_ble_eq_true rfl) rfl rfl (fun y_14 w_14 => ?_)
          have zy_14 : y_14.1 = y_1.1 := w_14.2.2
          have hT_14 := TPic.pnx (v := none) hT42 w_14
          refine aw_aload (n := 82) dJ27_moveRootToFront_80 2 rfl rfl ?_
          refine aw_ifnull (n := 85) dJ27_moveRootToFront_82 rfl ?_
          refine aw_aload (n := 87) dJ27_moveRootToFront_85 2 rfl rfl ?_
          refine aw_aload_n (n := 88) dJ27_moveRootToFront_87 rfl 6 rfl rfl ?_
          refine aw_putK (n := 91) (fs' := [.null, .null, .int (κ r0).1, .ref (κ r0).2.1, .ref (κ r0).2.2, va_rf ((up nx p43_2 none) r0), va_rf (pa r0), va_rf (lf r0), va_rf (rt r0), va_rf (some r), .int (bI (rd r0))]) (C0 := RJ27) (T := TJ27) (N := 11) (ci := 27) dJ27_moveRootToFront_88 rfl in_J27 tyJ27 tyJ27_ok nmJ27 q1601 9 (by decide) q1612 (Or.inl rfl) (Or.inl rfl) rfl (hT_14 r0 hr0).1 (hT_14 r0 hr0).2 rfl rfl (Nat.le_of_ble_eq_true rfl) rfl rfl (fun y_15 w_15 => ?_)
          have zy_15 : y_15.1 = y_14.1 := w_15.2.2
          have hT_15 := TPic.ppv (v := some r) hT_14 w_15
          refine aw_aload_n (n := 92) dJ27_moveRootToFront_91 rfl 6 rfl rfl ?_
          refine aw_aload (n := 94) dJ27_moveRootToFront_92 2 rfl rfl ?_
          refine aw_putK (n := 97) (fs' := [.null, .null, .int (κ r).1, .ref (κ r).2.1, .ref (κ r).2.2, va_rf (some r0), va_rf (pa r), va_rf (lf r), va_rf (rt r), va_rf ((up pv r0 (some r)) r), .int (bI (rd r))]) (C0 := RJ27) (T := TJ27) (N := 11) (ci := 27) dJ27_moveRootToFront_94 rfl in_J27 tyJ27 tyJ27_ok nmJ27 q1601 5 (by decide) q1557 (Or.inr q1558) (Or.inl rfl) rfl (hT_15 r hr).1 (hT_15 r hr).2 rfl rfl (Nat.le_of_ble_eq_true rfl) rfl rfl (fun y_16 w_16 => ?_)
          have zy_16 : y_16.1 = y_15.1 := w_16.2.2
          have hT_16 := TPic.pnx (v := some r0) hT_15 w_16
          refine aw_aload_n (n := 98) dJ27_moveRootToFront_97 rfl 6 rfl rfl ?_
          refine aw_null (n := 99) dJ27_moveRootToFront_98 rfl ?_
          refine aw_putK (n := 102) (fs' := [.null, .null, .int (κ r).1, .ref (κ r).2.1, .ref (κ r).2.2, va_rf ((up (up nx p43_2 none) r (some r0)) r), va_rf (pa r), va_rf (lf r), va_rf (rt r), va_rf none, .int (bI (rd r))]) (C0 := RJ27) (T := TJ27) (N := 11) (ci := 27) dJ27_moveRootToFront_99 rfl in_J27 tyJ27 tyJ27_ok nmJ27 q1601 9 (by decide) q1612 (Or.inl rfl) (Or.inl rfl) rfl (hT_16 r hr).1 (hT_16 r hr).2 rfl rfl (Nat.le_of_ble_eq_true rfl) rfl rfl (fun y_17 w_17 => ?_)
          have zy_17 : y_17.1 = y_16.1 := w_17.2.2
          have hT_17 := TPic.ppv (v := none) hT_16 w_17
          refine aw_gets (n := 105) (v := .int 1) dJ27_moveRootToFront_102 34 rfl q1587 rfl gd.2.2.2.2.2.2.2.1.2.2.1.2.2.1 rfl ?_
          refine aw_if_ne (n := 108) (tgt := 123) dJ27_moveRootToFront_105 (by decide) rfl (fun c_105_4 => ?_) (fun c_105_4 => ?_)
          · skip
            have f_18 : y_17.2 t = some (har 5 n (updV f i (.ref r))) := (w_17.k (ne_kind hA (hTP r hr).1 ar_ob) (w_16.k (ne_kind hA (hTP r hr).1 ar_ob) (w_15.k (ne_kind hA (hTP r0 hr0).1 ar_ob) (w_14.k (ne_kind hA (hTP p43_2 k_p43_2).1 ar_ob) w_1.1))))
            exact aw_vret dJ27_moveRootToFront_123 rfl ⟨rfl, (up (up nx p43_2 none) r (some r0)), (up (up pv r0 (some r)) r none), hT_17, (LW.uq (LW.uq (LW.un (LW.un hW p43_2 nn_in) r (sm_in hr0)) r0 (sm_in hr)) r nn_in), by simp [up], ⟨_, f_18, by simp [updV], fun j hj => by simp [updV, hj]⟩, (Fr.w (Fr.w (Fr.w (Fr.w (Fr.w Fr.rf w_1 (Or.inl (Or.inr rfl))) w_14 (Or.inl (Or.inl k_p43_2))) w_15 (Or.inl (Or.inl hr0))) w_16 (Or.inl (Or.inl hr))) w_17 (Or.inl (Or.inl hr))), by omega⟩ ⟨Nat.zero_le _, Nat.zero_le _⟩
          · skip
            exact absurd c_105_4 (by decide +kernel)
        · skip
          have k_n49_13 : N n49_13 := (hW r hr).1 n49_13 hq_13
          refine aw_getf (n := 52) (v := .ref n49_13) (C0 := RJ27) (T := TJ27) dJ27_moveRootToFront_49 rfl 5 q1557 (Or.inr q1558) (hT42 r hr).1 (congrArg (fun z9 => some (va_rf z9)) (show nx r = some n49_13 from by exact hq_13)) rfl ?_
          refine aw_dup (n := 53) dJ27_moveRootToFront_52 rfl rfl ?_
          refine aw_astore (n := 55) (lv' := [(5, .ref n49_13), (6, .ref p43_2), (4, .ref r0), (3, .int (nI i)), (2, .int (nI n)), (0, .ref t), (1, .ref r)]) dJ27_moveRootToFront_53 (by decide) rfl rfl ?_
          refine aw_ifnull (n := 58) dJ27_moveRootToFront_55 rfl ?_
          refine aw_aload (n := 60) dJ27_moveRootToFront_58 0 rfl rfl ?_
          refine aw_cast (n := 63) dJ27_moveRootToFront_60 q1532 rfl (hT42 n49_13 k_n49_13).1 (Or.inl rfl) rfl ?_
          refine aw_aload (n := 65) dJ27_moveRootToFront_63 1 rfl rfl ?_
          refine aw_putK (n := 68) (fs' := [.null, .null, .int (κ n49_13).1, .ref (κ n49_13).2.1, .ref (κ n49_13).2.2, va_rf (nx n49_13), va_rf (pa n49_13), va_rf (lf n49_13), va_rf (rt n49_13), va_rf (some p43_2), .int (bI (rd n49_13))]) (C0 := RJ27) (T := TJ27) (N := 11) (ci := 27) dJ27_moveRootToFront_65 rfl in_J27 tyJ27 tyJ27_ok nmJ27 q1601 9 (by decide) q1612 (Or.inl rfl) (Or.inl rfl) rfl (hT42 n49_13 k_n49_13).1 (hT42 n49_13 k_n49_13).2 rfl rfl (Nat.le_of_ble_eq_true rfl) rfl rfl (fun y_19 w_19 => ?_)
          have zy_19 : y_19.1 = y_1.1 := w_19.2.2
          have hT_19 := TPic.ppv (v := some p43_2) hT42 w_19
          refine aw_aload (n := 70) dJ27_moveRootToFront_68 1 rfl rfl ?_
          refine aw_ifnull (n := 73) dJ27_moveRootToFront_70 rfl ?_
          refine aw_aload (n := 75) dJ27_moveRootToFront_73 1 rfl rfl ?_
          refine aw_aload (n := 77) dJ27_moveRootToFront_75 0 rfl rfl ?_
          refine aw_putK (n := 80) (fs' := [.null, .null, .int (κ p43_2).1, .ref (κ p43_2).2.1, .ref (κ p43_2).2.2, va_rf (some n49_13), va_rf (pa p43_2), va_rf (lf p43_2), va_rf (rt p43_2), va_rf ((up pv n49_13 (some p43_2)) p43_2), .int (bI (rd p43_2))]) (C0 := RJ27) (T := TJ27) (N := 11) (ci := 27) dJ27_moveRootToFront_77 rfl in_J27 tyJ27 tyJ27_ok nmJ27 q1601 5 (by decide) q1557 (Or.inr q1558) (Or.inl rfl) rfl (hT_19 p43_2 k_p43_2).1 (hT_19 p43_2 k_p43_2).2 rfl rfl (Nat.le_of_ble_eq_true rfl) rfl rfl (fun y_20 w_20 => ?_)
          have zy_20 : y_20.1 = y_19.1 := w_20.2.2
          have hT_20 := TPic.pnx (v := some n49_13) hT_19 w_20
          refine aw_aload (n := 82) dJ27_moveRootToFront_80 2 rfl rfl ?_
          refine aw_ifnull (n := 85) dJ27_moveRootToFront_82 rfl ?_
          refine aw_aload (n := 87) dJ27_moveRootToFront_85 2 rfl rfl ?_
          refine aw_aload_n (n := 88) dJ27_moveRootToFront_87 rfl 6 rfl rfl ?_
          refine aw_putK (n := 91) (fs' := [.null, .null, .int (κ r0).1, .ref (κ r0).2.1, .ref (κ r0).2.2, va_rf ((up nx p43_2 (some n49_13)) r0), va_rf (pa r0), va_rf (lf r0), va_rf (rt r0), va_rf (some r), .int (bI (rd r0))]) (C0 := RJ27) (T := TJ27) (N := 11) (ci := 27) dJ27_moveRootToFront_88 rfl in_J27 tyJ27 tyJ27_ok nmJ27 q1601 9 (by decide) q1612 (Or.inl rfl) (Or.inl rfl) rfl (hT_20 r0 hr0).1 (hT_20 r0 hr0).2 rfl rfl (Nat.le_of_ble_eq_true rfl) rfl rfl (fun y_21 w_21 => ?_)
          have zy_21 : y_21.1 = y_20.1 := w_21.2.2
          have hT_21 := TPic.ppv (v := some r) hT_20 w_21
          refine aw_aload_n (n := 92) dJ27_moveRootToFront_91 rfl 6 rfl rfl ?_
          refine aw_aload (n := 94) dJ27_moveRootToFront_92 2 rfl rfl ?_
          refine aw_putK (n := 97) (fs' := [.null, .null, .int (κ r).1, .ref (κ r).2.1, .ref (κ r).2.2, va_rf (some r0), va_rf (pa r), va_rf (lf r), va_rf (rt r), va_rf ((up (up pv n49_13 (some p43_2)) r0 (some r)) r), .int (bI (rd r))]) (C0 := RJ27) (T := TJ27) (N := 11) (ci := 27) dJ27_moveRootToFront_94 rfl in_J27 tyJ27 tyJ27_ok nmJ27 q1601 5 (by decide) q1557 (Or.inr q1558) (Or.inl rfl) rfl (hT_21 r hr).1 (hT_21 r hr).2 rfl rfl (Nat.le_of_ble_eq_true rfl) rfl rfl (fun y_22 w_22 => ?_)
          have zy_22 : y_22.1 = y_21.1 := w_22.2.2
          have hT_22 := TPic.pnx (v := some r0) hT_21 w_22
          refine aw_aload_n (n := 98) dJ27_moveRootToFront_97 rfl 6 rfl rfl ?_
          refine aw_null (n := 99) dJ27_moveRootToFront_98 rfl ?_
          refine aw_putK (n := 102) (fs' := [.null, .null, .int (κ r).1, .ref (κ r).2.1, .ref (κ r).2.2, va_rf ((up (up nx p43_2 (some n49_13)) r (some r0)) r), va_rf (pa r), va_rf (lf r), va_rf (rt r), va_rf none, .int (bI (rd r))]) (C0 := RJ27) (T := TJ27) (N := 11) (ci := 27) dJ27_moveRootToFront_99 rfl in_J27 tyJ27 tyJ27_ok nmJ27 q1601 9 (by decide) q1612 (Or.inl rfl) (Or.inl rfl) rfl (hT_22 r hr).1 (hT_22 r hr).2 rfl rfl (Nat.le_of_ble_eq_true rfl) rfl rfl (fun y_23 w_23 => ?_)
          have zy_23 : y_23.1 = y_22.1 := w_23.2.2
          have hT_23 := TPic.ppv (v := none) hT_22 w_23
          refine aw_gets (n := 105) (v := .int 1) dJ27_moveRootToFront_102 34 rfl q1587 rfl gd.2.2.2.2.2.2.2.1.2.2.1.2.2.1 rfl ?_
          refine aw_if_ne (n := 108) (tgt := 123) dJ27_moveRootToFront_105 (by decide) rfl (fun c_105_5 => ?_) (fun c_105_5 => ?_)
          · skip
            have f_24 : y_23.2 t = some (har 5 n (updV f i (.ref r))) := (w_23.k (ne_kind hA (hTP r hr).1 ar_ob) (w_22.k (ne_kind hA (hTP r hr).1 ar_ob) (w_21.k (ne_kind hA (hTP r0 hr0).1 ar_ob) (w_20.k (ne_kind hA (hTP p43_2 k_p43_2).1 ar_ob) (w_19.k (ne_kind hA (hTP n49_13 k_n49_13).1 ar_ob) w_1.1)))))
            exact aw_vret dJ27_moveRootToFront_123 rfl ⟨rfl, (up (up nx p43_2 (some n49_13)) r (some r0)), (up (up (up pv n49_13 (some p43_2)) r0 (some r)) r none), hT_23, (LW.uq (LW.uq (LW.uq (LW.un (LW.un hW p43_2 (sm_in k_n49_13)) r (sm_in hr0)) n49_13 (sm_in k_p43_2)) r0 (sm_in hr)) r nn_in), by simp [up], ⟨_, f_24, by simp [updV], fun j hj => by simp [updV, hj]⟩, (Fr.w (Fr.w (Fr.w (Fr.w (Fr.w (Fr.w Fr.rf w_1 (Or.inl (Or.inr rfl))) w_19 (Or.inl (Or.inl k_n49_13))) w_20 (Or.inl (Or.inl k_p43_2))) w_21 (Or.inl (Or.inl hr0))) w_22 (Or.inl (Or.inl hr))) w_23 (Or.inl (Or.inl hr))), by omega⟩ ⟨Nat.zero_le _, Nat.zero_le _⟩
          · skip
            exact absurd c_105_5 (by decide +kernel)

end
