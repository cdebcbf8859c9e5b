/-! Trees: the rotations. -/
section
set_option maxRecDepth 100000
abbrev kJ27_rotateLeft : aK := (yJ27_rotateLeft, cJ27_rotateLeft, 5, (Option.some (Jvm.ClassFile.FieldType.object "java/util/HashMap$TreeNode")), [])
theorem hcJ27_rotateLeft : kJ27_rotateLeft.1.cls ≠ "java/lang/invoke/MethodHandle" ∧ kJ27_rotateLeft.1.cls ≠ "java/lang/invoke/VarHandle" ∧ (parseMethodDescriptor kJ27_rotateLeft.1.desc).map (fun d => d.parameters.length) = some 2 := ⟨by decide, by decide, by decide +kernel⟩
theorem hm_rotL (G : aG) (h : hH) (N : Nat → Prop) (κ : Nat → Int32 × Nat × Nat) (nx pa lf rt pv : oF) (rd : Nat → Bool) (hTP : TPic G h N κ nx pa lf rt pv rd) (lt : Nat → Nat → Prop) (root : Nat) (bl bh : oF) (ht : Nat → Nat) (B : Nat) (hB : BT lt N pa lf rt root bl bh ht B) (p r : Nat) (hp : N p) (hr : rt p = some r) : Con G kJ27_rotateLeft [.ref root, .ref p] h ((1, 0, 0, 0), (fun z h1 => z = some (.ref (rRoot p r pa root)) ∧ TPic G h1 N κ nx (rPa p r pa lf) (rLf p r pa lf) (rRt p r pa lf rt) pv (fun q => if pa p = none ∧ q = r then false else rd q) ∧ Fr N h h1 ∧ h1.1 = h.1), nX) := by
  obtain ⟨q1, q2, q3⟩ := BT.at hB hp hr
  refine Con.of (plainFor_of_name rfl) rfl (Nat.le_of_ble_eq_true rfl) ?_
  refine AW.eq (lv2 := [(0, .ref root), (1, .ref p)]) (s2 := []) rfl rfl rfl rfl rfl ?_
  refine aw_know (fun gd hi => ?_)
  refine aw_aload_n (n := 1) dJ27_rotateLeft_0 rfl 1 rfl rfl ?_
  refine aw_ifnull (n := 4) dJ27_rotateLeft_1 rfl ?_
  refine aw_aload_n (n := 5) dJ27_rotateLeft_4 rfl 1 rfl rfl ?_
  refine aw_getf (n := 8) (v := .ref r) (C0 := RJ27) (T := TJ27) dJ27_rotateLeft_5 rfl 8 q1611 (Or.inl rfl) (hTP p hp).1 (congrArg (fun z9 => some (va_rf z9)) (show rt p = some r from by exact hr)) rfl ?_
  refine aw_dup (n := 9) dJ27_rotateLeft_8 rfl rfl ?_
  refine aw_astore_n (n := 10) (lv' := [(2, .ref r), (0, .ref root), (1, .ref p)]) dJ27_rotateLeft_9 rfl (by decide) rfl rfl ?_
  refine aw_ifnull (n := 13) dJ27_rotateLeft_10 rfl ?_
  refine aw_aload_n (n := 14) dJ27_rotateLeft_13 rfl 2 rfl rfl ?_
  refine aw_aload_n (n := 15) dJ27_rotateLeft_14 rfl 0 rfl rfl ?_
  rcases optc (lf r) with hq_1 | ⟨l15_1, hq_1⟩
  · skip
    refine aw_getf (n := 18) (v := .null) (C0 := RJ27) (T := TJ27) dJ27_rotateLeft_15 rfl 7 q1610 (Or.inl rfl) (hTP r q1.1).1 (congrArg (fun z9 => some (va_rf z9)) (show lf r = none from by exact hq_1)) rfl ?_
    refine aw_dup_x1 (n := 19) dJ27_rotateLeft_18 rfl rfl rfl ?_
    refine aw_putK (n := 22) (fs' := [.null, .null, .int (κ p).1, .ref (κ p).2.1, .ref (κ p).2.2, va_rf (nx p), va_rf (pa p), va_rf (lf p), va_rf none, va_rf (pv p), .int (bI (rd p))]) (C0 := RJ27) (T := TJ27) (N := 11) (ci := 27) dJ27_rotateLeft_19 rfl in_J27 tyJ27 tyJ27_ok nmJ27 q1601 8 (by decide) q1611 (Or.inl rfl) (Or.inl rfl) rfl (hTP p hp).1 (hTP p hp).2 rfl rfl (Nat.le_of_ble_eq_true rfl) rfl rfl (fun y_2 w_2 => ?_)
    have zy_2 : y_2.1 = h.1 := w_2.2.2
    have hT_2 := TPic.prt (v := none) hTP w_2
    refine aw_dup (n := 23) dJ27_rotateLeft_22 rfl rfl ?_
    refine aw_astoreN (n := 25) (lv' := [(4, .null), (2, .ref r), (0, .ref root), (1, .ref p)]) dJ27_rotateLeft_23 (by decide) rfl rfl ?_
    refine aw_ifnullN (tgt := 34) dJ27_rotateLeft_25 (by decide) ?_
    refine aw_aload_n (n := 35) dJ27_rotateLeft_34 rfl 1 rfl rfl ?_
    refine aw_aload_n (n := 36) dJ27_rotateLeft_35 rfl 3 rfl rfl ?_
    rcases optc (pa p) with hq_3 | ⟨p36_3, hq_3⟩
    · skip
      refine aw_getf (n := 39) (v := .null) (C0 := RJ27) (T := TJ27) dJ27_rotateLeft_36 rfl 6 q1609 (Or.inl rfl) (hT_2 p hp).1 (congrArg (fun z9 => some (va_rf z9)) (show pa p = none from by exact hq_3)) rfl ?_
      refine aw_dup_x1 (n := 40) dJ27_rotateLeft_39 rfl rfl rfl ?_
      refine aw_putK (n := 43) (fs' := [.null, .null, .int (κ r).1, .ref (κ r).2.1, .ref (κ r).2.2, va_rf (nx r), va_rf none, va_rf (lf r), va_rf ((up rt p none) r), va_rf (pv r), .int (bI (rd r))]) (C0 := RJ27) (T := TJ27) (N := 11) (ci := 27) dJ27_rotateLeft_40 rfl in_J27 tyJ27 tyJ27_ok nmJ27 q1601 6 (by decide) q1609 (Or.inl rfl) (Or.inl rfl) rfl (hT_2 r q1.1).1 (hT_2 r q1.1).2 rfl rfl (Nat.le_of_ble_eq_true rfl) rfl rfl (fun y_4 w_4 => ?_)
      have zy_4 : y_4.1 = y_2.1 := w_4.2.2
      have hT_4 := TPic.ppa (v := none) hT_2 w_4
      refine aw_dup (n := 44) dJ27_rotateLeft_43 rfl rfl ?_
      refine aw_astore_nN (n := 45) (lv' := [(3, .null), (4, .null), (2, .ref r), (0, .ref root), (1, .ref p)]) dJ27_rotateLeft_44 rfl (by decide) rfl rfl ?_
      refine aw_ifnonnullN (n := 48) dJ27_rotateLeft_45 rfl ?_
      refine aw_aload_n (n := 49) dJ27_rotateLeft_48 rfl 2 rfl rfl ?_
      refine aw_dup (n := 50) dJ27_rotateLeft_49 rfl rfl ?_
      refine aw_astore_n (n := 51) (lv' := [(0, .ref r), (3, .null), (4, .null), (2, .ref r), (1, .ref p)]) dJ27_rotateLeft_50 rfl (by decide) rfl rfl ?_
      refine aw_iconst (n := 52) (v := 0) dJ27_rotateLeft_51 (by decide) rfl ?_
      refine aw_putK (n := 55) (fs' := [.null, .null, .int (κ r).1, .ref (κ r).2.1, .ref (κ r).2.2, va_rf (nx r), va_rf ((up pa r none) r), va_rf (lf r), va_rf ((up rt p none) r), va_rf (pv r), .int (bI false)]) (C0 := RJ27) (T := TJ27) (N := 11) (ci := 27) dJ27_rotateLeft_52 rfl in_J27 tyJ27 tyJ27_ok nmJ27 q1601 10 (by decide) q1614 (Or.inl rfl) (Or.inl rfl) rfl (hT_4 r q1.1).1 (hT_4 r q1.1).2 rfl rfl (Nat.le_of_ble_eq_true rfl) rfl rfl (fun y_5 w_5 => ?_)
      have zy_5 : y_5.1 = y_4.1 := w_5.2.2
      have hT_5 := TPic.prd (v := false) hT_4 w_5
      refine aw_goto (tgt := 79) dJ27_rotateLeft_55 (by decide) ?_
      refine aw_aload_n (n := 80) dJ27_rotateLeft_79 rfl 3 rfl rfl ?_
      refine aw_aload_n (n := 81) dJ27_rotateLeft_80 rfl 4 rfl rfl ?_
      refine aw_putK (n := 84) (fs' := [.null, .null, .int (κ r).1, .ref (κ r).2.1, .ref (κ r).2.2, va_rf (nx r), va_rf ((up pa r none) r), va_rf (some p), va_rf ((up rt p none) r), va_rf (pv r), .int (bI ((ub rd r false) r))]) (C0 := RJ27) (T := TJ27) (N := 11) (ci := 27) dJ27_rotateLeft_81 rfl in_J27 tyJ27 tyJ27_ok nmJ27 q1601 7 (by decide) q1610 (Or.inl rfl) (Or.inl rfl) rfl (hT_5 r q1.1).1 (hT_5 r q1.1).2 rfl rfl (Nat.le_of_ble_eq_true rfl) rfl rfl (fun y_6 w_6 => ?_)
      have zy_6 : y_6.1 = y_5.1 := w_6.2.2
      have hT_6 := TPic.plf (v := some p) hT_5 w_6
      refine aw_aload_n (n := 85) dJ27_rotateLeft_84 rfl 4 rfl rfl ?_
      refine aw_aload_n (n := 86) dJ27_rotateLeft_85 rfl 3 rfl rfl ?_
      refine aw_putK (n := 89) (fs' := [.null, .null, .int (κ p).1, .ref (κ p).2.1, .ref (κ p).2.2, va_rf (nx p), va_rf (some r), va_rf ((up lf r (some p)) p), va_rf ((up rt p none) p), va_rf (pv p), .int (bI ((ub rd r false) p))]) (C0 := RJ27) (T := TJ27) (N := 11) (ci := 27) dJ27_rotateLeft_86 rfl in_J27 tyJ27 tyJ27_ok nmJ27 q1601 6 (by decide) q1609 (Or.inl rfl) (Or.inl rfl) rfl (hT_6 p hp).1 (hT_6 p hp).2 rfl rfl (Nat.le_of_ble_eq_true rfl) rfl rfl (fun y_7 w_7 => ?_)
      have zy_7 : y_7.1 = y_6.1 := w_7.2.2
      have hT_7 := TPic.ppa (v := some r) hT_6 w_7
      refine aw_aload_n (n := 90) dJ27_rotateLeft_89 rfl 0 rfl rfl ?_
      have e1 : r = rRoot p r pa root := by unfold rRoot; first | (rw [if_pos (by assumption)]; done) | (rw [if_neg (by rw [‹pa p = some _›]; exact fun z => nomatch z)])
      have T9 : TPic G y_7 N κ nx (rPa p r pa lf) (rLf p r pa lf) (rRt p r pa lf rt) pv (fun q => if pa p = none ∧ q = r then false else rd q) := TPic.cg hT_7 (fun _ k => k) (fun _ _ => rfl) (fun _ _ => rfl) (fun x hx => by unfold rPa up; grind) (fun x hx => by unfold rLf up; grind) (fun x hx => by unfold rRt up; grind) (fun _ _ => rfl) (fun x hx => by first | (unfold ub; grind) | grind)
      exact aw_aret dJ27_rotateLeft_90 rfl (Or.inl ⟨_, rfl⟩) (Or.inr ⟨_, rfl⟩) ⟨congrArg (fun z => some (Value.ref z)) e1, T9, (Fr.w (Fr.w (Fr.w (Fr.w (Fr.w Fr.rf w_2 (Or.inl hp)) w_4 (Or.inl q1.1)) w_5 (Or.inl q1.1)) w_6 (Or.inl q1.1)) w_7 (Or.inl hp)), by omega⟩ ⟨Nat.zero_le _, Nat.zero_le _⟩
    · skip
      have k_p36_3 := q3 p36_3 hq_3
      refine aw_getf (n := 39) (v := .ref p36_3) (C0 := RJ27) (T := TJ27) dJ27_rotateLeft_36 rfl 6 q1609 (Or.inl rfl) (hT_2 p hp).1 (congrArg (fun z9 => some (va_rf z9)) (show pa p = some p36_3 from by exact hq_3)) rfl ?_
      refine aw_dup_x1 (n := 40) dJ27_rotateLeft_39 rfl rfl rfl ?_
      refine aw_putK (n := 43) (fs' := [.null, .null, .int (κ r).1, .ref (κ r).2.1, .ref (κ r).2.2, va_rf (nx r), va_rf (some p36_3), va_rf (lf r), va_rf ((up rt p none) r), va_rf (pv r), .int (bI (rd r))]) (C0 := RJ27) (T := TJ27) (N := 11) (ci := 27) dJ27_rotateLeft_40 rfl in_J27 tyJ27 tyJ27_ok nmJ27 q1601 6 (by decide) q1609 (Or.inl rfl) (Or.inl rfl) rfl (hT_2 r q1.1).1 (hT_2 r q1.1).2 rfl rfl (Nat.le_of_ble_eq_true rfl) rfl rfl (fun y_8 w_8 => ?_)
      have zy_8 : y_8.1 = y_2.1 := w_8.2.2
      have hT_8 := TPic.ppa (v := some p36_3) hT_2 w_8
      refine aw_dup (n := 44) dJ27_rotateLeft_43 rfl rfl ?_
      refine aw_astore_n (n := 45) (lv' := [(3, .ref p36_3), (4, .null), (2, .ref r), (0, .ref root), (1, .ref p)]) dJ27_rotateLeft_44 rfl (by decide) rfl rfl ?_
      refine aw_ifnonnull (tgt := 58) dJ27_rotateLeft_45 (by decide) ?_
      refine aw_aload_n (n := 59) dJ27_rotateLeft_58 rfl 0 rfl rfl ?_
      rcases optc (lf p36_3) with hq_9 | ⟨l59_9, hq_9⟩
      · skip
        refine aw_getf (n := 62) (v := .null) (C0 := RJ27) (T := TJ27) dJ27_rotateLeft_59 rfl 7 q1610 (Or.inl rfl) (hT_8 p36_3 k_p36_3.1).1 (congrArg (fun z9 => some (va_rf z9)) (show lf p36_3 = none from by exact hq_9)) rfl ?_
        refine aw_aload_n (n := 63) dJ27_rotateLeft_62 rfl 4 rfl rfl ?_
        refine aw_acmp_ne (n := 66) (x := none) (y := (some p)) (tgt := 74) dJ27_rotateLeft_63 (by decide) rfl (fun _ => ?_) (fun z9 => absurd z9 (by simp))
        refine aw_aload_n (n := 75) dJ27_rotateLeft_74 rfl 0 rfl rfl ?_
        refine aw_aload_n (n := 76) dJ27_rotateLeft_75 rfl 2 rfl rfl ?_
        refine aw_putK (n := 79) (fs' := [.null, .null, .int (κ p36_3).1, .ref (κ p36_3).2.1, .ref (κ p36_3).2.2, va_rf (nx p36_3), va_rf ((up pa r (some p36_3)) p36_3), va_rf (lf p36_3), va_rf (some r), va_rf (pv p36_3), .int (bI (rd p36_3))]) (C0 := RJ27) (T := TJ27) (N := 11) (ci := 27) dJ27_rotateLeft_76 rfl in_J27 tyJ27 tyJ27_ok nmJ27 q1601 8 (by decide) q1611 (Or.inl rfl) (Or.inl rfl) rfl (hT_8 p36_3 k_p36_3.1).1 (hT_8 p36_3 k_p36_3.1).2 rfl rfl (Nat.le_of_ble_eq_true rfl) rfl rfl (fun y_10 w_10 => ?_)
        have zy_10 : y_10.1 = y_8.1 := w_10.2.2
        have hT_10 := TPic.prt (v := some r) hT_8 w_10
        refine aw_aload_n (n := 80) dJ27_rotateLeft_79 rfl 2 rfl rfl ?_
        refine aw_aload_n (n := 81) dJ27_rotateLeft_80 rfl 4 rfl rfl ?_
        refine aw_putK (n := 84) (fs' := [.null, .null, .int (κ r).1, .ref (κ r).2.1, .ref (κ r).2.2, va_rf (nx r), va_rf ((up pa r (some p36_3)) r), va_rf (some p), va_rf ((up (up rt p none) p36_3 (some r)) r), va_rf (pv r), .int (bI (rd r))]) (C0 := RJ27) (T := TJ27) (N := 11) (ci := 27) dJ27_rotateLeft_81 rfl in_J27 tyJ27 tyJ27_ok nmJ27 q1601 7 (by decide) q1610 (Or.inl rfl) (Or.inl rfl) rfl (hT_10 r q1.1).1 (hT_10 r q1.1).2 rfl rfl (Nat.le_of_ble_eq_true rfl) rfl rfl (fun y_11 w_11 => ?_)
        have zy_11 : y_11.1 = y_10.1 := w_11.2.2
        have hT_11 := TPic.plf (v := some p) hT_10 w_11
        refine aw_aload_n (n := 85) dJ27_rotateLeft_84 rfl 4 rfl rfl ?_
        refine aw_aload_n (n := 86) dJ27_rotateLeft_85 rfl 2 rfl rfl ?_
        refine aw_putK (n := 89) (fs' := [.null, .null, .int (κ p).1, .ref (κ p).2.1, .ref (κ p).2.2, va_rf (nx p), va_rf (some r), va_rf ((up lf r (some p)) p), va_rf ((up (up rt p none) p36_3 (some r)) p), va_rf (pv p), .int (bI (rd p))]) (C0 := RJ27) (T := TJ27) (N := 11) (ci := 27) dJ27_rotateLeft_86 rfl in_J27 tyJ27 tyJ27_ok nmJ27 q1601 6 (by decide) q1609 (Or.inl rfl) (Or.inl rfl) rfl (hT_11 p hp).1 (hT_11 p hp).2 rfl rfl (Nat.le_of_ble_eq_true rfl) rfl rfl (fun y_12 w_12 => ?_)
        have zy_12 : y_12.1 = y_11.1 := w_12.2.2
        have hT_12 := TPic.ppa (v := some r) hT_11 w_12
        refine aw_aload_n (n := 90) dJ27_rotateLeft_89 rfl 3 rfl rfl ?_
        have e1 : root = rRoot p r pa root := by unfold rRoot; first | (rw [if_pos (by assumption)]; done) | (rw [if_neg (by rw [‹pa p = some _›]; exact fun z => nomatch z)])
        have T9 : TPic G y_12 N κ nx (rPa p r pa lf) (rLf p r pa lf) (rRt p r pa lf rt) pv (fun q => if pa p = none ∧ q = r then false else rd q) := TPic.cg hT_12 (fun _ k => k) (fun _ _ => rfl) (fun _ _ => rfl) (fun x hx => by unfold rPa up; grind) (fun x hx => by unfold rLf up; grind) (fun x hx => by unfold rRt up; grind) (fun _ _ => rfl) (fun x hx => by first | (unfold ub; grind) | grind)
        exact aw_aret dJ27_rotateLeft_90 rfl (Or.inl ⟨_, rfl⟩) (Or.inr ⟨_, rfl⟩) ⟨congrArg (fun z => some (Value.ref z)) e1, T9, (Fr.w (Fr.w (Fr.w (Fr.w (Fr.w Fr.rf w_2 (Or.inl hp)) w_8 (Or.inl q1.1)) w_10 (Or.inl k_p36_3.1)) w_11 (Or.inl q1.1)) w_12 (Or.inl hp)), by omega⟩ ⟨Nat.zero_le _, Nat.zero_le _⟩
      · skip
        refine aw_getf (n := 62) (v := .ref l59_9) (C0 := RJ27) (T := TJ27) dJ27_rotateLeft_59 rfl 7 q1610 (Or.inl rfl) (hT_8 p36_3 k_p36_3.1).1 (congrArg (fun z9 => some (va_rf z9)) (show lf p36_3 = some l59_9 from by exact hq_9)) rfl ?_
        refine aw_aload_n (n := 63) dJ27_rotateLeft_62 rfl 4 rfl rfl ?_
        refine aw_acmp_ne (n := 66) (x := (some l59_9)) (y := (some p)) (tgt := 74) dJ27_rotateLeft_63 (by decide) rfl (fun c_63_2 => ?_) (fun c_63_2 => ?_)
        · skip
          refine aw_aload_n (n := 75) dJ27_rotateLeft_74 rfl 0 rfl rfl ?_
          refine aw_aload_n (n := 76) dJ27_rotateLeft_75 rfl 2 rfl rfl ?_
          refine aw_putK (n := 79) (fs' := [.null, .null, .int (κ p36_3).1, .ref (κ p36_3).2.1, .ref (κ p36_3).2.2, va_rf (nx p36_3), va_rf ((up pa r (some p36_3)) p36_3), va_rf (lf p36_3), va_rf (some r), va_rf (pv p36_3), .int (bI (rd p36_3))]) (C0 := RJ27) (T := TJ27) (N := 11) (ci := 27) dJ27_rotateLeft_76 rfl in_J27 tyJ27 tyJ27_ok nmJ27 q1601 8 (by decide) q1611 (Or.inl rfl) (Or.inl rfl) rfl (hT_8 p36_3 k_p36_3.1).1 (hT_8 p36_3 k_p36_3.1).2 rfl rfl (Nat.le_of_ble_eq_true rfl) rfl rfl (fun y_13 w_13 => ?_)
          have zy_13 : y_13.1 = y_8.1 := w_13.2.2
          have hT_13 := TPic.prt (v := some r) hT_8 w_13
          refine aw_aload_n (n := 80) dJ27_rotateLeft_79 rfl 2 rfl rfl ?_
          refine aw_aload_n (n := 81) dJ27_rotateLeft_80 rfl 4 rfl rfl ?_
          refine aw_putK (n := 84) (fs' := [.null, .null, .int (κ r).1, .ref (κ r).2.1, .ref (κ r).2.2, va_rf (nx r), va_rf ((up pa r (some p36_3)) r), va_rf (some p), va_rf ((up (up rt p none) p36_3 (some r)) r), va_rf (pv r), .int (bI (rd r))]) (C0 := RJ27) (T := TJ27) (N := 11) (ci := 27) dJ27_rotateLeft_81 rfl in_J27 tyJ27 tyJ27_ok nmJ27 q1601 7 (by decide) q1610 (Or.inl rfl) (Or.inl rfl) rfl (hT_13 r q1.1).1 (hT_13 r q1.1).2 rfl rfl (Nat.le_of_ble_eq_true rfl) rfl rfl (fun y_14 w_14 => ?_)
          have zy_14 : y_14.1 = y_13.1 := w_14.2.2
          have hT_14 := TPic.plf (v := some p) hT_13 w_14
          refine aw_aload_n (n := 85) dJ27_rotateLeft_84 rfl 4 rfl rfl ?_
          refine aw_aload_n (n := 86) dJ27_rotateLeft_85 rfl 2 rfl rfl ?_
          refine aw_putK (n := 89) (fs' := [.null, .null, .int (κ p).1, .ref (κ p).2.1, .ref (κ p).2.2, va_rf (nx p), va_rf (some r), va_rf ((up lf r (some p)) p), va_rf ((up (up rt p none) p36_3 (some r)) p), va_rf (pv p), .int (bI (rd p))]) (C0 := RJ27) (T := TJ27) (N := 11) (ci := 27) dJ27_rotateLeft_86 rfl in_J27 tyJ27 tyJ27_ok nmJ27 q1601 6 (by decide) q1609 (Or.inl rfl) (Or.inl rfl) rfl (hT_14 p hp).1 (hT_14 p hp).2 rfl rfl (Nat.le_of_ble_eq_true rfl) rfl rfl (fun y_15 w_15 => ?_)
          have zy_15 : y_15.1 = y_14.1 := w_15.2.2
          have hT_15 := TPic.ppa (v := some r) hT_14 w_15
          refine aw_aload_n (n := 90) dJ27_rotateLeft_89 rfl 3 rfl rfl ?_
          have e1 : root = rRoot p r pa root := by unfold rRoot; first | (rw [if_pos (by assumption)]; done) | (rw [if_neg (by rw [‹pa p = some _›]; exact fun z => nomatch z)])
          have T9 : TPic G y_15 N κ nx (rPa p r pa lf) (rLf p r pa lf) (rRt p r pa lf rt) pv (fun q => if pa p = none ∧ q = r then false else rd q) := TPic.cg hT_15 (fun _ k => k) (fun _ _ => rfl) (fun _ _ => rfl) (fun x hx => by unfold rPa up; grind) (fun x hx => by unfold rLf up; grind) (fun x hx => by unfold rRt up; grind) (fun _ _ => rfl) (fun x hx => by first | (unfold ub; grind) | grind)
          exact aw_aret dJ27_rotateLeft_90 rfl (Or.inl ⟨_, rfl⟩) (Or.inr ⟨_, rfl⟩) ⟨congrArg (fun z => some (Value.ref z)) e1, T9, (Fr.w (Fr.w (Fr.w (Fr.w (Fr.w Fr.rf w_2 (Or.inl hp)) w_8 (Or.inl q1.1)) w_13 (Or.inl k_p36_3.1)) w_14 (Or.inl q1.1)) w_15 (Or.inl hp)), by omega⟩ ⟨Nat.zero_le _, Nat.zero_le _⟩
        · skip
          refine aw_aload_n (n := 67) dJ27_rotateLeft_66 rfl 0 rfl rfl ?_
          refine aw_aload_n (n := 68) dJ27_rotateLeft_67 rfl 2 rfl rfl ?_
          refine aw_putK (n := 71) (fs' := [.null, .null, .int (κ p36_3).1, .ref (κ p36_3).2.1, .ref (κ p36_3).2.2, va_rf (nx p36_3), va_rf ((up pa r (some p36_3)) p36_3), va_rf (some r), va_rf ((up rt p none) p36_3), va_rf (pv p36_3), .int (bI (rd p36_3))]) (C0 := RJ27) (T := TJ27) (N := 11) (ci := 27) dJ27_rotateLeft_68 rfl in_J27 tyJ27 tyJ27_ok nmJ27 q1601 7 (by decide) q1610 (Or.inl rfl) (Or.inl rfl) rfl (hT_8 p36_3 k_p36_3.1).1 (hT_8 p36_3 k_p36_3.1).2 rfl rfl (Nat.le_of_ble_eq_true rfl) rfl rfl (fun y_16 w_16 => ?_)
          have zy_16 : y_16.1 = y_8.1 := w_16.2.2
          have hT_16 := TPic.plf (v := some r) hT_8 w_16
          refine aw_goto (tgt := 79) dJ27_rotateLeft_71 (by decide) ?_
          refine aw_aload_n (n := 80) dJ27_rotateLeft_79 rfl 2 rfl rfl ?_
          refine aw_aload_n (n := 81) dJ27_rotateLeft_80 rfl 4 rfl rfl ?_
          refine aw_putK (n := 84) (fs' := [.null, .null, .int (κ r).1, .ref (κ r).2.1, .ref (κ r).2.2, va_rf (nx r), va_rf ((up pa r (some p36_3)) r), va_rf (some p), va_rf ((up rt p none) r), va_rf (pv r), .int (bI (rd r))]) (C0 := RJ27) (T := TJ27) (N := 11) (ci := 27) dJ27_rotateLeft_81 rfl in_J27 tyJ27 tyJ27_ok nmJ27 q1601 7 (by decide) q1610 (Or.inl rfl) (Or.inl rfl) rfl (hT_16 r q1.1).1 (hT_16 r q1.1).2 rfl rfl (Nat.le_of_ble_eq_true rfl) rfl rfl (fun y_17 w_17 => ?_)
          have zy_17 : y_17.1 = y_16.1 := w_17.2.2
          have hT_17 := TPic.plf (v := some p) hT_16 w_17
          refine aw_aload_n (n := 85) dJ27_rotateLeft_84 rfl 4 rfl rfl ?_
          refine aw_aload_n (n := 86) dJ27_rotateLeft_85 rfl 2 rfl rfl ?_
          refine aw_putK (n := 89) (fs' := [.null, .null, .int (κ p).1, .ref (κ p).2.1, .ref (κ p).2.2, va_rf (nx p), va_rf (some r), va_rf ((up (up lf p36_3 (some r)) r (some p)) p), va_rf ((up rt p none) p), va_rf (pv p), .int (bI (rd p))]) (C0 := RJ27) (T := TJ27) (N := 11) (ci := 27) dJ27_rotateLeft_86 rfl in_J27 tyJ27 tyJ27_ok nmJ27 q1601 6 (by decide) q1609 (Or.inl rfl) (Or.inl rfl) rfl (hT_17 p hp).1 (hT_17 p hp).2 rfl rfl (Nat.le_of_ble_eq_true rfl) rfl rfl (fun y_18 w_18 => ?_)
          have zy_18 : y_18.1 = y_17.1 := w_18.2.2
          have hT_18 := TPic.ppa (v := some r) hT_17 w_18
          refine aw_aload_n (n := 90) dJ27_rotateLeft_89 rfl 3 rfl rfl ?_
          have e1 : root = rRoot p r pa root := by unfold rRoot; first | (rw [if_pos (by assumption)]; done) | (rw [if_neg (by rw [‹pa p = some _›]; exact fun z => nomatch z)])
          have T9 : TPic G y_18 N κ nx (rPa p r pa lf) (rLf p r pa lf) (rRt p r pa lf rt) pv (fun q => if pa p = none ∧ q = r then false else rd q) := TPic.cg hT_18 (fun _ k => k) (fun _ _ => rfl) (fun _ _ => rfl) (fun x hx => by unfold rPa up; grind) (fun x hx => by unfold rLf up; grind) (fun x hx => by unfold rRt up; grind) (fun _ _ => rfl) (fun x hx => by first | (unfold ub; grind) | grind)
          exact aw_aret dJ27_rotateLeft_90 rfl (Or.inl ⟨_, rfl⟩) (Or.inr ⟨_, rfl⟩) ⟨congrArg (fun z => some (Value.ref z)) e1, T9, (Fr.w (Fr.w (Fr.w (Fr.w (Fr.w Fr.rf w_2 (Or.inl hp)) w_8 (Or.inl q1.1)) w_16 (Or.inl k_p36_3.1)) w_17 (Or.inl q1.1)) w_18 (Or.inl hp)), by omega⟩ ⟨Nat.zero_le _, Nat.zero_le _⟩
  · skip
    have k_l15_1 := q2 l15_1 hq_1
    refine aw_getf (n := 18) (v := .ref l15_1) (C0 := RJ27) (T := TJ27) dJ27_rotateLeft_15 rfl 7 q1610 (Or.inl rfl) (hTP r q1.1).1 (congrArg (fun z9 => some (va_rf z9)) (show lf r = some l15_1 from by exact hq_1)) rfl ?_
    refine aw_dup_x1 (n := 19) dJ27_rotateLeft_18 rfl rfl rfl ?_
    refine aw_putK (n := 22) (fs' := [.null, .null, .int (κ p).1, .ref (κ p).2.1, .ref (κ p).2.2, va_rf (nx p), va_rf (pa p), va_rf (lf p), va_rf (some l15_1), va_rf (pv p), .int (bI (rd p))]) (C0 := RJ27) (T := TJ27) (N := 11) (ci := 27) dJ27_rotateLeft_19 rfl in_J27 tyJ27 tyJ27_ok nmJ27 q1601 8 (by decide) q1611 (Or.inl rfl) (Or.inl rfl) rfl (hTP p hp).1 (hTP p hp).2 rfl rfl (Nat.le_of_ble_eq_true rfl) rfl rfl (fun y_19 w_19 => ?_)
    have zy_19 : y_19.1 = h.1 := w_19.2.2
    have hT_19 := TPic.prt (v := some l15_1) hTP w_19
    refine aw_dup (n := 23) dJ27_rotateLeft_22 rfl rfl ?_
    refine aw_astore (n := 25) (lv' := [(4, .ref l15_1), (2, .ref r), (0, .ref root), (1, .ref p)]) dJ27_rotateLeft_23 (by decide) rfl rfl ?_
    refine aw_ifnull (n := 28) dJ27_rotateLeft_25 rfl ?_
    refine aw_aload (n := 30) dJ27_rotateLeft_28 0 rfl rfl ?_
    refine aw_aload_n (n := 31) dJ27_rotateLeft_30 rfl 3 rfl rfl ?_
    refine aw_putK (n := 34) (fs' := [.null, .null, .int (κ l15_1).1, .ref (κ l15_1).2.1, .ref (κ l15_1).2.2, va_rf (nx l15_1), va_rf (some p), va_rf (lf l15_1), va_rf ((up rt p (some l15_1)) l15_1), va_rf (pv l15_1), .int (bI (rd l15_1))]) (C0 := RJ27) (T := TJ27) (N := 11) (ci := 27) dJ27_rotateLeft_31 rfl in_J27 tyJ27 tyJ27_ok nmJ27 q1601 6 (by decide) q1609 (Or.inl rfl) (Or.inl rfl) rfl (hT_19 l15_1 k_l15_1.1).1 (hT_19 l15_1 k_l15_1.1).2 rfl rfl (Nat.le_of_ble_eq_true rfl) rfl rfl (fun y_20 w_20 => ?_)
    have zy_20 : y_20.1 = y_19.1 := w_20.2.2
    have hT_20 := TPic.ppa (v := some p) hT_19 w_20
    refine aw_aload_n (n := 35) dJ27_rotateLeft_34 rfl 1 rfl rfl ?_
    refine aw_aload_n (n := 36) dJ27_rotateLeft_35 rfl 3 rfl rfl ?_
    rcases optc (pa p) with hq_21 | ⟨p36_21, hq_21⟩
    · skip
      refine aw_getf (n := 39) (v := .null) (C0 := RJ27) (T := TJ27) dJ27_rotateLeft_36 rfl 6 q1609 (Or.inl rfl) (hT_20 p hp).1 (congrArg (fun z9 => some (va_rf z9)) (show (up pa l15_1 (some p)) p = none from by simp only [up]; rw [if_neg (Ne.symm k_l15_1.2.1), hq_21])) rfl ?_
      refine aw_dup_x1 (n := 40) dJ27_rotateLeft_39 rfl rfl rfl ?_
      refine aw_putK (n := 43) (fs' := [.null, .null, .int (κ r).1, .ref (κ r).2.1, .ref (κ r).2.2, va_rf (nx r), va_rf none, va_rf (lf r), va_rf ((up rt p (some l15_1)) r), va_rf (pv r), .int (bI (rd r))]) (C0 := RJ27) (T := TJ27) (N := 11) (ci := 27) dJ27_rotateLeft_40 rfl in_J27 tyJ27 tyJ27_ok nmJ27 q1601 6 (by decide) q1609 (Or.inl rfl) (Or.inl rfl) rfl (hT_20 r q1.1).1 (hT_20 r q1.1).2 rfl rfl (Nat.le_of_ble_eq_true rfl) rfl rfl (fun y_22 w_22 => ?_)
      have zy_22 : y_22.1 = y_20.1 := w_22.2.2
      have hT_22 := TPic.ppa (v := none) hT_20 w_22
      refine aw_dup (n := 44) dJ27_rotateLeft_43 rfl rfl ?_
      refine aw_astore_nN (n := 45) (lv' := [(3, .null), (4, .ref l15_1), (2, .ref r), (0, .ref root), (1, .ref p)]) dJ27_rotateLeft_44 rfl (by decide) rfl rfl ?_
      refine aw_ifnonnullN (n := 48) dJ27_rotateLeft_45 rfl ?_
      refine aw_aload_n (n := 49) dJ27_rotateLeft_48 rfl 2 rfl rfl ?_
      refine aw_dup (n := 50) dJ27_rotateLeft_49 rfl rfl ?_
      refine aw_astore_n (n := 51) (lv' := [(0, .ref r), (3, .null), (4, .ref l15_1), (2, .ref r), (1, .ref p)]) dJ27_rotateLeft_50 rfl (by decide) rfl rfl ?_
      refine aw_iconst (n := 52) (v := 0) dJ27_rotateLeft_51 (by decide) rfl ?_
      refine aw_putK (n := 55) (fs' := [.null, .null, .int (κ r).1, .ref (κ r).2.1, .ref (κ r).2.2, va_rf (nx r), va_rf ((up (up pa l15_1 (some p)) r none) r), va_rf (lf r), va_rf ((up rt p (some l15_1)) r), va_rf (pv r), .int (bI false)]) (C0 := RJ27) (T := TJ27) (N := 11) (ci := 27) dJ27_rotateLeft_52 rfl in_J27 tyJ27 tyJ27_ok nmJ27 q1601 10 (by decide) q1614 (Or.inl rfl) (Or.inl rfl) rfl (hT_22 r q1.1).1 (hT_22 r q1.1).2 rfl rfl (Nat.le_of_ble_eq_true rfl) rfl rfl (fun y_23 w_23 => ?_)
      have zy_23 : y_23.1 = y_22.1 := w_23.2.2
      have hT_23 := TPic.prd (v := false) hT_22 w_23
      refine aw_goto (tgt := 79) dJ27_rotateLeft_55 (by decide) ?_
      refine aw_aload_n (n := 80) dJ27_rotateLeft_79 rfl 3 rfl rfl ?_
      refine aw_aload_n (n := 81) dJ27_rotateLeft_80 rfl 4 rfl rfl ?_
      refine aw_putK (n := 84) (fs' := [.null, .null, .int (κ r).1, .ref (κ r).2.1, .ref (κ r).2.2, va_rf (nx r), va_rf ((up (up pa l15_1 (some p)) r none) r), va_rf (some p), va_rf ((up rt p (some l15_1)) r), va_rf (pv r), .int (bI ((ub rd r false) r))]) (C0 := RJ27) (T := TJ27) (N := 11) (ci := 27) dJ27_rotateLeft_81 rfl in_J27 tyJ27 tyJ27_ok nmJ27 q1601 7 (by decide) q1610 (Or.inl rfl) (Or.inl rfl) rfl (hT_23 r q1.1).1 (hT_23 r q1.1).2 rfl rfl (Nat.le_of_ble_eq_true rfl) rfl rfl (fun y_24 w_24 => ?_)
      have zy_24 : y_24.1 = y_23.1 := w_24.2.2
      have hT_24 := TPic.plf (v := some p) hT_23 w_24
      refine aw_aload_n (n := 85) dJ27_rotateLeft_84 rfl 4 rfl rfl ?_
      refine aw_aload_n (n := 86) dJ27_rotateLeft_85 rfl 3 rfl rfl ?_
      refine aw_putK (n := 89) (fs' := [.null, .null, .int (κ p).1, .ref (κ p).2.1, .ref (κ p).2.2, va_rf (nx p), va_rf (some r), va_rf ((up lf r (some p)) p), va_rf ((up rt p (some l15_1)) p), va_rf (pv p), .int (bI ((ub rd r false) p))]) (C0 := RJ27) (T := TJ27) (N := 11) (ci := 27) dJ27_rotateLeft_86 rfl in_J27 tyJ27 tyJ27_ok nmJ27 q1601 6 (by decide) q1609 (Or.inl rfl) (Or.inl rfl) rfl (hT_24 p hp).1 (hT_24 p hp).2 rfl rfl (Nat.le_of_ble_eq_true rfl) rfl rfl (fun y_25 w_25 => ?_)
      have zy_25 : y_25.1 = y_24.1 := w_25.2.2
      have hT_25 := TPic.ppa (v := some r) hT_24 w_25
      refine aw_aload_n (n := 90) dJ27_rotateLeft_89 rfl 0 rfl rfl ?_
      have e1 : r = rRoot p r pa root := by unfold rRoot; first | (rw [if_pos (by assumption)]; done) | (rw [if_neg (by rw [‹pa p = some _›]; exact fun z => nomatch z)])
      have T9 : TPic G y_25 N κ nx (rPa p r pa lf) (rLf p r pa lf) (rRt p r pa lf rt) pv (fun q => if pa p = none ∧ q = r then false else rd q) := TPic.cg hT_25 (fun _ k => k) (fun _ _ => rfl) (fun _ _ => rfl) (fun x hx => by unfold rPa up; grind) (fun x hx => by unfold rLf up; grind) (fun x hx => by unfold rRt up; grind) (fun _ _ => rfl) (fun x hx => by first | (unfold ub; grind) | grind)
      exact aw_aret dJ27_rotateLeft_90 rfl (Or.inl ⟨_, rfl⟩) (Or.inr ⟨_, rfl⟩) ⟨congrArg (fun z => some (Value.ref z)) e1, T9, (Fr.w (Fr.w (Fr.w (Fr.w (Fr.w (Fr.w Fr.rf w_19 (Or.inl hp)) w_20 (Or.inl k_l15_1.1)) w_22 (Or.inl q1.1)) w_23 (Or.inl q1.1)) w_24 (Or.inl q1.1)) w_25 (Or.inl hp)), by omega⟩ ⟨Nat.zero_le _, Nat.zero_le _⟩
    · skip
      have k_p36_21 := q3 p36_21 hq_21
      refine aw_getf (n := 39) (v := .ref p36_21) (C0 := RJ27) (T := TJ27) dJ27_rotateLeft_36 rfl 6 q1609 (Or.inl rfl) (hT_20 p hp).1 (congrArg (fun z9 => some (va_rf z9)) (show (up pa l15_1 (some p)) p = some p36_21 from by simp only [up]; rw [if_neg (Ne.symm k_l15_1.2.1), hq_21])) rfl ?_
      refine aw_dup_x1 (n := 40) dJ27_rotateLeft_39 rfl rfl rfl ?_
      refine aw_putK (n := 43) (fs' := [.null, .null, .int (κ r).1, .ref (κ r).2.1, .ref (κ r).2.2, va_rf (nx r), va_rf (some p36_21), va_rf (lf r), va_rf ((up rt p (some l15_1)) r), va_rf (pv r), .int (bI (rd r))]) (C0 := RJ27) (T := TJ27) (N := 11) (ci := 27) dJ27_rotateLeft_40 rfl in_J27 tyJ27 tyJ27_ok nmJ27 q1601 6 (by decide) q1609 (Or.inl rfl) (Or.inl rfl) rfl (hT_20 r q1.1).1 (hT_20 r q1.1).2 rfl rfl (Nat.le_of_ble_eq_true rfl) rfl rfl (fun y_26 w_26 => ?_)
      have zy_26 : y_26.1 = y_20.1 := w_26.2.2
      have hT_26 := TPic.ppa (v := some p36_21) hT_20 w_26
      refine aw_dup (n := 44) dJ27_rotateLeft_43 rfl rfl ?_
      refine aw_astore_n (n := 45) (lv' := [(3, .ref p36_21), (4, .ref l15_1), (2, .ref r), (0, .ref root), (1, .ref p)]) dJ27_rotateLeft_44 rfl (by decide) rfl rfl ?_
      refine aw_ifnonnull (tgt := 58) dJ27_rotateLeft_45 (by decide) ?_
      refine aw_aload_n (n := 59) dJ27_rotateLeft_58 rfl 0 rfl rfl ?_
      rcases optc (lf p36_21) with hq_27 | ⟨l59_27, hq_27⟩
      · skip
        refine aw_getf (n := 62) (v := .null) (C0 := RJ27) (T := TJ27) dJ27_rotateLeft_59 rfl 7 q1610 (Or.inl rfl) (hT_26 p36_21 k_p36_21.1).1 (congrArg (fun z9 => some (va_rf z9)) (show lf p36_21 = none from by exact hq_27)) rfl ?_
        refine aw_aload_n (n := 63) dJ27_rotateLeft_62 rfl 4 rfl rfl ?_
        refine aw_acmp_ne (n := 66) (x := none) (y := (some p)) (tgt := 74) dJ27_rotateLeft_63 (by decide) rfl (fun _ => ?_) (fun z9 => absurd z9 (by simp))
        refine aw_aload_n (n := 75) dJ27_rotateLeft_74 rfl 0 rfl rfl ?_
        refine aw_aload_n (n := 76) dJ27_rotateLeft_75 rfl 2 rfl rfl ?_
        refine aw_putK (n := 79) (fs' := [.null, .null, .int (κ p36_21).1, .ref (κ p36_21).2.1, .ref (κ p36_21).2.2, va_rf (nx p36_21), va_rf ((up (up pa l15_1 (some p)) r (some p36_21)) p36_21), va_rf (lf p36_21), va_rf (some r), va_rf (pv p36_21), .int (bI (rd p36_21))]) (C0 := RJ27) (T := TJ27) (N := 11) (ci := 27) dJ27_rotateLeft_76 rfl in_J27 tyJ27 tyJ27_ok nmJ27 q1601 8 (by decide) q1611 (Or.inl rfl) (Or.inl rfl) rfl (hT_26 p36_21 k_p36_21.1).1 (hT_26 p36_21 k_p36_21.1).2 rfl rfl (Nat.le_of_ble_eq_true rfl) rfl rfl (fun y_28 w_28 => ?_)
        have zy_28 : y_28.1 = y_26.1 := w_28.2.2
        have hT_28 := TPic.prt (v := some r) hT_26 w_28
        refine aw_aload_n (n := 80) dJ27_rotateLeft_79 rfl 2 rfl rfl ?_
        refine aw_aload_n (n := 81) dJ27_rotateLeft_80 rfl 4 rfl rfl ?_
        refine aw_putK (n := 84) (fs' := [.null, .null, .int (κ r).1, .ref (κ r).2.1, .ref (κ r).2.2, va_rf (nx r), va_rf ((up (up pa l15_1 (some p)) r (some p36_21)) r), va_rf (some p), va_rf ((up (up rt p (some l15_1)) p36_21 (some r)) r), va_rf (pv r), .int (bI (rd r))]) (C0 := RJ27) (T := TJ27) (N := 11) (ci := 27) dJ27_rotateLeft_81 rfl in_J27 tyJ27 tyJ27_ok nmJ27 q1601 7 (by decide) q1610 (Or.inl rfl) (Or.inl rfl) rfl (hT_28 r q1.1).1 (hT_28 r q1.1).2 rfl rfl (Nat.le_of_ble_eq_true rfl) rfl rfl (fun y_29 w_29 => ?_)
        have zy_29 : y_29.1 = y_28.1 := w_29.2.2
        have hT_29 := TPic.plf (v := some p) hT_28 w_29
        refine aw_aload_n (n := 85) dJ27_rotateLeft_84 rfl 4 rfl rfl ?_
        refine aw_aload_n (n := 86) dJ27_rotateLeft_85 rfl 2 rfl rfl ?_
        refine aw_putK (n := 89) (fs' := [.null, .null, .int (κ p).1, .ref (κ p).2.1, .ref (κ p).2.2, va_rf (nx p), va_rf (some r), va_rf ((up lf r (some p)) p), va_rf ((up (up rt p (some l15_1)) p36_21 (some r)) p), va_rf (pv p), .int (bI (rd p))]) (C0 := RJ27) (T := TJ27) (N := 11) (ci := 27) dJ27_rotateLeft_86 rfl in_J27 tyJ27 tyJ27_ok nmJ27 q1601 6 (by decide) q1609 (Or.inl rfl) (Or.inl rfl) rfl (hT_29 p hp).1 (hT_29 p hp).2 rfl rfl (Nat.le_of_ble_eq_true rfl) rfl rfl (fun y_30 w_30 => ?_)
        have zy_30 : y_30.1 = y_29.1 := w_30.2.2
        have hT_30 := TPic.ppa (v := some r) hT_29 w_30
        refine aw_aload_n (n := 90) dJ27_rotateLeft_89 rfl 3 rfl rfl ?_
        have e1 : root = rRoot p r pa root := by unfold rRoot; first | (rw [if_pos (by assumption)]; done) | (rw [if_neg (by rw [‹pa p = some _›]; exact fun z => nomatch z)])
        have T9 : TPic G y_30 N κ nx (rPa p r pa lf) (rLf p r pa lf) (rRt p r pa lf rt) pv (fun q => if pa p = none ∧ q = r then false else rd q) := TPic.cg hT_30 (fun _ k => k) (fun _ _ => rfl) (fun _ _ => rfl) (fun x hx => by unfold rPa up; grind) (fun x hx => by unfold rLf up; grind) (fun x hx => by unfold rRt up; grind) (fun _ _ => rfl) (fun x hx => by first | (unfold ub; grind) | grind)
        exact aw_aret dJ27_rotateLeft_90 rfl (Or.inl ⟨_, rfl⟩) (Or.inr ⟨_, rfl⟩) ⟨congrArg (fun z => some (Value.ref z)) e1, T9, (Fr.w (Fr.w (Fr.w (Fr.w (Fr.w (Fr.w Fr.rf w_19 (Or.inl hp)) w_20 (Or.inl k_l15_1.1)) w_26 (Or.inl q1.1)) w_28 (Or.inl k_p36_21.1)) w_29 (Or.inl q1.1)) w_30 (Or.inl hp)), by omega⟩ ⟨Nat.zero_le _, Nat.zero_le _⟩
      · skip
        refine aw_getf (n := 62) (v := .ref l59_27) (C0 := RJ27) (T := TJ27) dJ27_rotateLeft_59 rfl 7 q1610 (Or.inl rfl) (hT_26 p36_21 k_p36_21.1).1 (congrArg (fun z9 => some (va_rf z9)) (show lf p36_21 = some l59_27 from by exact hq_27)) rfl ?_
        refine aw_aload_n (n := 63) dJ27_rotateLeft_62 rfl 4 rfl rfl ?_
        refine aw_acmp_ne (n := 66) (x := (some l59_27)) (y := (some p)) (tgt := 74) dJ27_rotateLeft_63 (by decide) rfl (fun c_63_4 => ?_) (fun c_63_4 => ?_)
        · skip
          refine aw_aload_n (n := 75) dJ27_rotateLeft_74 rfl 0 rfl rfl ?_
          refine aw_aload_n (n := 76) dJ27_rotateLeft_75 rfl 2 rfl rfl ?_
          refine aw_putK (n := 79) (fs' := [.null, .null, .int (κ p36_21).1, .ref (κ p36_21).2.1, .ref (κ p36_21).2.2, va_rf (nx p36_21), va_rf ((up (up pa l15_1 (some p)) r (some p36_21)) p36_21), va_rf (lf p36_21), va_rf (some r), va_rf (pv p36_21), .int (bI (rd p36_21))]) (C0 := RJ27) (T := TJ27) (N := 11) (ci := 27) dJ27_rotateLeft_76 rfl in_J27 tyJ27 tyJ27_ok nmJ27 q1601 8 (by decide) q1611 (Or.inl rfl) (Or.inl rfl) rfl (hT_26 p36_21 k_p36_21.1).1 (hT_26 p36_21 k_p36_21.1).2 rfl rfl (Nat.le_of_ble_eq_true rfl) rfl rfl (fun y_31 w_31 => ?_)
          have zy_31 : y_31.1 = y_26.1 := w_31.2.2
          have hT_31 := TPic.prt (v := some r) hT_26 w_31
          refine aw_aload_n (n := 80) dJ27_rotateLeft_79 rfl 2 rfl rfl ?_
          refine aw_aload_n (n := 81) dJ27_rotateLeft_80 rfl 4 rfl rfl ?_
          refine aw_putK (n := 84) (fs' := [.null, .null, .int (κ r).1, .ref (κ r).2.1, .ref (κ r).2.2, va_rf (nx r), va_rf ((up (up pa l15_1 (some p)) r (some p36_21)) r), va_rf (some p), va_rf ((up (up rt p (some l15_1)) p36_21 (some r)) r), va_rf (pv r), .int (bI (rd r))]) (C0 := RJ27) (T := TJ27) (N := 11) (ci := 27) dJ27_rotateLeft_81 rfl in_J27 tyJ27 tyJ27_ok nmJ27 q1601 7 (by decide) q1610 (Or.inl rfl) (Or.inl rfl) rfl (hT_31 r q1.1).1 (hT_31 r q1.1).2 rfl rfl (Nat.le_of_ble_eq_true rfl) rfl rfl (fun y_32 w_32 => ?_)
          have zy_32 : y_32.1 = y_31.1 := w_32.2.2
          have hT_32 := TPic.plf (v := some p) hT_31 w_32
          refine aw_aload_n (n := 85) dJ27_rotateLeft_84 rfl 4 rfl rfl ?_
          refine aw_aload_n (n := 86) dJ27_rotateLeft_85 rfl 2 rfl rfl ?_
          refine aw_putK (n := 89) (fs' := [.null, .null, .int (κ p).1, .ref (κ p).2.1, .ref (κ p).2.2, va_rf (nx p), va_rf (some r), va_rf ((up lf r (some p)) p), va_rf ((up (up rt p (some l15_1)) p36_21 (some r)) p), va_rf (pv p), .int (bI (rd p))]) (C0 := RJ27) (T := TJ27) (N := 11) (ci := 27) dJ27_rotateLeft_86 rfl in_J27 tyJ27 tyJ27_ok nmJ27 q1601 6 (by decide) q1609 (Or.inl rfl) (Or.inl rfl) rfl (hT_32 p hp).1 (hT_32 p hp).2 rfl rfl (Nat.le_of_ble_eq_true rfl) rfl rfl (fun y_33 w_33 => ?_)
          have zy_33 : y_33.1 = y_32.1 := w_33.2.2
          have hT_33 := TPic.ppa (v := some r) hT_32 w_33
          refine aw_aload_n (n := 90) dJ27_rotateLeft_89 rfl 3 rfl rfl ?_
          have e1 : root = rRoot p r pa root := by unfold rRoot; first | (rw [if_pos (by assumption)]; done) | (rw [if_neg (by rw [‹pa p = some _›]; exact fun z => nomatch z)])
          have T9 : TPic G y_33 N κ nx (rPa p r pa lf) (rLf p r pa lf) (rRt p r pa lf rt) pv (fun q => if pa p = none ∧ q = r then false else rd q) := TPic.cg hT_33 (fun _ k => k) (fun _ _ => rfl) (fun _ _ => rfl) (fun x hx => by unfold rPa up; grind) (fun x hx => by unfold rLf up; grind) (fun x hx => by unfold rRt up; grind) (fun _ _ => rfl) (fun x hx => by first | (unfold ub; grind) | grind)
          exact aw_aret dJ27_rotateLeft_90 rfl (Or.inl ⟨_, rfl⟩) (Or.inr ⟨_, rfl⟩) ⟨congrArg (fun z => some (Value.ref z)) e1, T9, (Fr.w (Fr.w (Fr.w (Fr.w (Fr.w (Fr.w Fr.rf w_19 (Or.inl hp)) w_20 (Or.inl k_l15_1.1)) w_26 (Or.inl q1.1)) w_31 (Or.inl k_p36_21.1)) w_32 (Or.inl q1.1)) w_33 (Or.inl hp)), by omega⟩ ⟨Nat.zero_le _, Nat.zero_le _⟩
        · skip
          refine aw_aload_n (n := 67) dJ27_rotateLeft_66 rfl 0 rfl rfl ?_
          refine aw_aload_n (n := 68) dJ27_rotateLeft_67 rfl 2 rfl rfl ?_
          refine aw_putK (n := 71) (fs' := [.null, .null, .int (κ p36_21).1, .ref (κ p36_21).2.1, .ref (κ p36_21).2.2, va_rf (nx p36_21), va_rf ((up (up pa l15_1 (some p)) r (some p36_21)) p36_21), va_rf (some r), va_rf ((up rt p (some l15_1)) p36_21), va_rf (pv p36_21), .int (bI (rd p36_21))]) (C0 := RJ27) (T := TJ27) (N := 11) (ci := 27) dJ27_rotateLeft_68 rfl in_J27 tyJ27 tyJ27_ok nmJ27 q1601 7 (by decide) q1610 (Or.inl rfl) (Or.inl rfl) rfl (hT_26 p36_21 k_p36_21.1).1 (hT_26 p36_21 k_p36_21.1).2 rfl rfl (Nat.le_of_ble_eq_true rfl) rfl rfl (fun y_34 w_34 => ?_)
          have zy_34 : y_34.1 = y_26.1 := w_34.2.2
          have hT_34 := TPic.plf (v := some r) hT_26 w_34
          refine aw_goto (tgt := 79) dJ27_rotateLeft_71 (by decide) ?_
          refine aw_aload_n (n := 80) dJ27_rotateLeft_79 rfl 2 rfl rfl ?_
          refine aw_aload_n (n := 81) dJ27_rotateLeft_80 rfl 4 rfl rfl ?_
          refine aw_putK (n := 84) (fs' := [.null, .null, .int (κ r).1, .ref (κ r).2.1, .ref (κ r).2.2, va_rf (nx r), va_rf ((up (up pa l15_1 (some p)) r (some p36_21)) r), va_rf (some p), va_rf ((up rt p (some l15_1)) r), va_rf (pv r), .int (bI (rd r))]) (C0 := RJ27) (T := TJ27) (N := 11) (ci := 27) dJ27_rotateLeft_81 rfl in_J27 tyJ27 tyJ27_ok nmJ27 q1601 7 (by decide) q1610 (Or.inl rfl) (Or.inl rfl) rfl (hT_34 r q1.1).1 (hT_34 r q1.1).2 rfl rfl (Nat.le_of_ble_eq_true rfl) rfl rfl (fun y_35 w_35 => ?_)
          have zy_35 : y_35.1 = y_34.1 := w_35.2.2
          have hT_35 := TPic.plf (v := some p) hT_34 w_35
          refine aw_aload_n (n := 85) dJ27_rotateLeft_84 rfl 4 rfl rfl ?_
          refine aw_aload_n (n := 86) dJ27_rotateLeft_85 rfl 2 rfl rfl ?_
          refine aw_putK (n := 89) (fs' := [.null, .null, .int (κ p).1, .ref (κ p).2.1, .ref (κ p).2.2, va_rf (nx p), va_rf (some r), va_rf ((up (up lf p36_21 (some r)) r (some p)) p), va_rf ((up rt p (some l15_1)) p), va_rf (pv p), .int (bI (rd p))]) (C0 := RJ27) (T := TJ27) (N := 11) (ci := 27) dJ27_rotateLeft_86 rfl in_J27 tyJ27 tyJ27_ok nmJ27 q1601 6 (by decide) q1609 (Or.inl rfl) (Or.inl rfl) rfl (hT_35 p hp).1 (hT_35 p hp).2 rfl rfl (Nat.le_of_ble_eq_true rfl) rfl rfl (fun y_36 w_36 => ?_)
          have zy_36 : y_36.1 = y_35.1 := w_36.2.2
          have hT_36 := TPic.ppa (v := some r) hT_35 w_36
          refine aw_aload_n (n := 90) dJ27_rotateLeft_89 rfl 3 rfl rfl ?_
          have e1 : root = rRoot p r pa root := by unfold rRoot; first | (rw [if_pos (by assumption)]; done) | (rw [if_neg (by rw [‹pa p = some _›]; exact fun z => nomatch z)])
          have T9 : TPic G y_36 N κ nx (rPa p r pa lf) (rLf p r pa lf) (rRt p r pa lf rt) pv (fun q => if pa p = none ∧ q = r then false else rd q) := TPic.cg hT_36 (fun _ k => k) (fun _ _ => rfl) (fun _ _ => rfl) (fun x hx => by unfold rPa up; grind) (fun x hx => by unfold rLf up; grind) (fun x hx => by unfold rRt up; grind) (fun _ _ => rfl) (fun x hx => by first | (unfold ub; grind) | grind)
          exact aw_aret dJ27_rotateLeft_90 rfl (Or.inl ⟨_, rfl⟩) (Or.inr ⟨_, rfl⟩) ⟨congrArg (fun z => some (Value.ref z)) e1, T9, (Fr.w (Fr.w (Fr.w (Fr.w (Fr.w (Fr.w Fr.rf w_19 (Or.inl hp)) w_20 (Or.inl k_l15_1.1)) w_26 (Or.inl q1.1)) w_34 (Or.inl k_p36_21.1)) w_35 (Or.inl q1.1)) w_36 (Or.inl hp)), by omega⟩ ⟨Nat.zero_le _, Nat.zero_le _⟩

abbrev kJ27_rotateRight : aK := (yJ27_rotateRight, cJ27_rotateRight, 5, (Option.some (Jvm.ClassFile.FieldType.object "java/util/HashMap$TreeNode")), [])
theorem hcJ27_rotateRight : kJ27_rotateRight.1.cls ≠ "java/lang/invoke/MethodHandle" ∧ kJ27_rotateRight.1.cls ≠ "java/lang/invoke/VarHandle" ∧ (parseMethodDescriptor kJ27_rotateRight.1.desc).map (fun d => d.parameters.length) = some 2 := ⟨by decide, by decide, by decide +kernel⟩
theorem hm_rotR (G : aG) (h : hH) (N : Nat → Prop) (κ : Nat → Int32 × Nat × Nat) (nx pa lf rt pv : oF) (rd : Nat → Bool) (hTP : TPic G h N κ nx pa lf rt pv rd) (lt : Nat → Nat → Prop) (root : Nat) (bl bh : oF) (ht : Nat → Nat) (B : Nat) (hB : BT lt N pa lf rt root bl bh ht B) (p r : Nat) (hp : N p) (hr : lf p = some r) : Con G kJ27_rotateRight [.ref root, .ref p] h ((1, 0, 0, 0), (fun z h1 => z = some (.ref (rRoot p r pa root)) ∧ TPic G h1 N κ nx (rPa p r pa rt) (rRt p r pa rt lf) (rLf p r pa rt) pv (fun q => if pa p = none ∧ q = r then false else rd q) ∧ Fr N h h1 ∧ h1.1 = h.1), nX) := by
  obtain ⟨q1, q2, q3⟩ := BT.at hB.flip hp hr
  refine Con.of (plainFor_of_name rfl) rfl (Nat.le_of_ble_eq_true rfl) ?_
  refine AW.eq (lv2 := [(0, .ref root), (1, .ref p)]) (s2 := []) rfl rfl rfl rfl rfl ?_
  refine aw_know (fun gd hi => ?_)
  refine aw_aload_n (n := 1) dJ27_rotateRight_0 rfl 1 rfl rfl ?_
  refine aw_ifnull (n := 4) dJ27_rotateRight_1 rfl ?_
  refine aw_aload_n (n := 5) dJ27_rotateRight_4 rfl 1 rfl rfl ?_
  refine aw_getf (n := 8) (v := .ref r) (C0 := RJ27) (T := TJ27) dJ27_rotateRight_5 rfl 7 q1610 (Or.inl rfl) (hTP p hp).1 (congrArg (fun z9 => some (va_rf z9)) (show lf p = some r from by exact hr)) rfl ?_
  refine aw_dup (n := 9) dJ27_rotateRight_8 rfl rfl ?_
  refine aw_astore_n (n := 10) (lv' := [(2, .ref r), (0, .ref root), (1, .ref p)]) dJ27_rotateRight_9 rfl (by decide) rfl rfl ?_
  refine aw_ifnull (n := 13) dJ27_rotateRight_10 rfl ?_
  refine aw_aload_n (n := 14) dJ27_rotateRight_13 rfl 2 rfl rfl ?_
  refine aw_aload_n (n := 15) dJ27_rotateRight_14 rfl 0 rfl rfl ?_
  rcases optc (rt r) with hq_1 | ⟨r15_1, hq_1⟩
  · skip
    refine aw_getf (n := 18) (v := .null) (C0 := RJ27) (T := TJ27) dJ27_rotateRight_15 rfl 8 q1611 (Or.inl rfl) (hTP r q1.1).1 (congrArg (fun z9 => some (va_rf z9)) (show rt r = none from by exact hq_1)) rfl ?_
    refine aw_dup_x1 (n := 19) dJ27_rotateRight_18 rfl rfl rfl ?_
    refine aw_putK (n := 22) (fs' := [.null, .null, .int (κ p).1, .ref (κ p).2.1, .ref (κ p).2.2, va_rf (nx p), va_rf (pa p), va_rf none, va_rf (rt p), va_rf (pv p), .int (bI (rd p))]) (C0 := RJ27) (T := TJ27) (N := 11) (ci := 27) dJ27_rotateRight_19 rfl in_J27 tyJ27 tyJ27_ok nmJ27 q1601 7 (by decide) q1610 (Or.inl rfl) (Or.inl rfl) rfl (hTP p hp).1 (hTP p hp).2 rfl rfl (Nat.le_of_ble_eq_true rfl) rfl rfl (fun y_2 w_2 => ?_)
    have zy_2 : y_2.1 = h.1 := w_2.2.2
    have hT_2 := TPic.plf (v := none) hTP w_2
    refine aw_dup (n := 23) dJ27_rotateRight_22 rfl rfl ?_
    refine aw_astoreN (n := 25) (lv' := [(4, .null), (2, .ref r), (0, .ref root), (1, .ref p)]) dJ27_rotateRight_23 (by decide) rfl rfl ?_
    refine aw_ifnullN (tgt := 34) dJ27_rotateRight_25 (by decide) ?_
    refine aw_aload_n (n := 35) dJ27_rotateRight_34 rfl 1 rfl rfl ?_
    refine aw_aload_n (n := 36) dJ27_rotateRight_35 rfl 3 rfl rfl ?_
    rcases optc (pa p) with hq_3 | ⟨p36_3, hq_3⟩
    · skip
      refine aw_getf (n := 39) (v := .null) (C0 := RJ27) (T := TJ27) dJ27_rotateRight_36 rfl 6 q1609 (Or.inl rfl) (hT_2 p hp).1 (congrArg (fun z9 => some (va_rf z9)) (show pa p = none from by exact hq_3)) rfl ?_
      refine aw_dup_x1 (n := 40) dJ27_rotateRight_39 rfl rfl rfl ?_
      refine aw_putK (n := 43) (fs' := [.null, .null, .int (κ r).1, .ref (κ r).2.1, .ref (κ r).2.2, va_rf (nx r), va_rf none, va_rf ((up lf p none) r), va_rf (rt r), va_rf (pv r), .int (bI (rd r))]) (C0 := RJ27) (T := TJ27) (N := 11) (ci := 27) dJ27_rotateRight_40 rfl in_J27 tyJ27 tyJ27_ok nmJ27 q1601 6 (by decide) q1609 (Or.inl rfl) (Or.inl rfl) rfl (hT_2 r q1.1).1 (hT_2 r q1.1).2 rfl rfl (Nat.le_of_ble_eq_true rfl) rfl rfl (fun y_4 w_4 => ?_)
      have zy_4 : y_4.1 = y_2.1 := w_4.2.2
      have hT_4 := TPic.ppa (v := none) hT_2 w_4
      refine aw_dup (n := 44) dJ27_rotateRight_43 rfl rfl ?_
      refine aw_astore_nN (n := 45) (lv' := [(3, .null), (4, .null), (2, .ref r), (0, .ref root), (1, .ref p)]) dJ27_rotateRight_44 rfl (by decide) rfl rfl ?_
      refine aw_ifnonnullN (n := 48) dJ27_rotateRight_45 rfl ?_
      refine aw_aload_n (n := 49) dJ27_rotateRight_48 rfl 2 rfl rfl ?_
      refine aw_dup (n := 50) dJ27_rotateRight_49 rfl rfl ?_
      refine aw_astore_n (n := 51) (lv' := [(0, .ref r), (3, .null), (4, .null), (2, .ref r), (1, .ref p)]) dJ27_rotateRight_50 rfl (by decide) rfl rfl ?_
      refine aw_iconst (n := 52) (v := 0) dJ27_rotateRight_51 (by decide) rfl ?_
      refine aw_putK (n := 55) (fs' := [.null, .null, .int (κ r).1, .ref (κ r).2.1, .ref (κ r).2.2, va_rf (nx r), va_rf ((up pa r none) r), va_rf ((up lf p none) r), va_rf (rt r), va_rf (pv r), .int (bI false)]) (C0 := RJ27) (T := TJ27) (N := 11) (ci := 27) dJ27_rotateRight_52 rfl in_J27 tyJ27 tyJ27_ok nmJ27 q1601 10 (by decide) q1614 (Or.inl rfl) (Or.inl rfl) rfl (hT_4 r q1.1).1 (hT_4 r q1.1).2 rfl rfl (Nat.le_of_ble_eq_true rfl) rfl rfl (fun y_5 w_5 => ?_)
      have zy_5 : y_5.1 = y_4.1 := w_5.2.2
      have hT_5 := TPic.prd (v := false) hT_4 w_5
      refine aw_goto (tgt := 79) dJ27_rotateRight_55 (by decide) ?_
      refine aw_aload_n (n := 80) dJ27_rotateRight_79 rfl 3 rfl rfl ?_
      refine aw_aload_n (n := 81) dJ27_rotateRight_80 rfl 4 rfl rfl ?_
      refine aw_putK (n := 84) (fs' := [.null, .null, .int (κ r).1, .ref (κ r).2.1, .ref (κ r).2.2, va_rf (nx r), va_rf ((up pa r none) r), va_rf ((up lf p none) r), va_rf (some p), va_rf (pv r), .int (bI ((ub rd r false) r))]) (C0 := RJ27) (T := TJ27) (N := 11) (ci := 27) dJ27_rotateRight_81 rfl in_J27 tyJ27 tyJ27_ok nmJ27 q1601 8 (by decide) q1611 (Or.inl rfl) (Or.inl rfl) rfl (hT_5 r q1.1).1 (hT_5 r q1.1).2 rfl rfl (Nat.le_of_ble_eq_true rfl) rfl rfl (fun y_6 w_6 => ?_)
      have zy_6 : y_6.1 = y_5.1 := w_6.2.2
      have hT_6 := TPic.prt (v := some p) hT_5 w_6
      refine aw_aload_n (n := 85) dJ27_rotateRight_84 rfl 4 rfl rfl ?_
      refine aw_aload_n (n := 86) dJ27_rotateRight_85 rfl 3 rfl rfl ?_
      refine aw_putK (n := 89) (fs' := [.null, .null, .int (κ p).1, .ref (κ p).2.1, .ref (κ p).2.2, va_rf (nx p), va_rf (some r), va_rf ((up lf p none) p), va_rf ((up rt r (some p)) p), va_rf (pv p), .int (bI ((ub rd r false) p))]) (C0 := RJ27) (T := TJ27) (N := 11) (ci := 27) dJ27_rotateRight_86 rfl in_J27 tyJ27 tyJ27_ok nmJ27 q1601 6 (by decide) q1609 (Or.inl rfl) (Or.inl rfl) rfl (hT_6 p hp).1 (hT_6 p hp).2 rfl rfl (Nat.le_of_ble_eq_true rfl) rfl rfl (fun y_7 w_7 => ?_)
      have zy_7 : y_7.1 = y_6.1 := w_7.2.2
      have hT_7 := TPic.ppa (v := some r) hT_6 w_7
      refine aw_aload_n (n := 90) dJ27_rotateRight_89 rfl 0 rfl rfl ?_
      have e1 : r = rRoot p r pa root := by unfold rRoot; first | (rw [if_pos (by assumption)]; done) | (rw [if_neg (by rw [‹pa p = some _›]; exact fun z => nomatch z)])
      have T9 : TPic G y_7 N κ nx (rPa p r pa rt) (rRt p r pa rt lf) (rLf p r pa rt) pv (fun q => if pa p = none ∧ q = r then false else rd q) := TPic.cg hT_7 (fun _ k => k) (fun _ _ => rfl) (fun _ _ => rfl) (fun x hx => by unfold rPa up; grind) (fun x hx => by unfold rRt up; grind) (fun x hx => by unfold rLf up; grind) (fun _ _ => rfl) (fun x hx => by first | (unfold ub; grind) | grind)
      exact aw_aret dJ27_rotateRight_90 rfl (Or.inl ⟨_, rfl⟩) (Or.inr ⟨_, rfl⟩) ⟨congrArg (fun z => some (Value.ref z)) e1, T9, (Fr.w (Fr.w (Fr.w (Fr.w (Fr.w Fr.rf w_2 (Or.inl hp)) w_4 (Or.inl q1.1)) w_5 (Or.inl q1.1)) w_6 (Or.inl q1.1)) w_7 (Or.inl hp)), by omega⟩ ⟨Nat.zero_le _, Nat.zero_le _⟩
    · skip
      have k_p36_3 := q3 p36_3 hq_3
      refine aw_getf (n := 39) (v := .ref p36_3) (C0 := RJ27) (T := TJ27) dJ27_rotateRight_36 rfl 6 q1609 (Or.inl rfl) (hT_2 p hp).1 (congrArg (fun z9 => some (va_rf z9)) (show pa p = some p36_3 from by exact hq_3)) rfl ?_
      refine aw_dup_x1 (n := 40) dJ27_rotateRight_39 rfl rfl rfl ?_
      refine aw_putK (n := 43) (fs' := [.null, .null, .int (κ r).1, .ref (κ r).2.1, .ref (κ r).2.2, va_rf (nx r), va_rf (some p36_3), va_rf ((up lf p none) r), va_rf (rt r), va_rf (pv r), .int (bI (rd r))]) (C0 := RJ27) (T := TJ27) (N := 11) (ci := 27) dJ27_rotateRight_40 rfl in_J27 tyJ27 tyJ27_ok nmJ27 q1601 6 (by decide) q1609 (Or.inl rfl) (Or.inl rfl) rfl (hT_2 r q1.1).1 (hT_2 r q1.1).2 rfl rfl (Nat.le_of_ble_eq_true rfl) rfl rfl (fun y_8 w_8 => ?_)
      have zy_8 : y_8.1 = y_2.1 := w_8.2.2
      have hT_8 := TPic.ppa (v := some p36_3) hT_2 w_8
      refine aw_dup (n := 44) dJ27_rotateRight_43 rfl rfl ?_
      refine aw_astore_n (n := 45) (lv' := [(3, .ref p36_3), (4, .null), (2, .ref r), (0, .ref root), (1, .ref p)]) dJ27_rotateRight_44 rfl (by decide) rfl rfl ?_
      refine aw_ifnonnull (tgt := 58) dJ27_rotateRight_45 (by decide) ?_
      refine aw_aload_n (n := 59) dJ27_rotateRight_58 rfl 0 rfl rfl ?_
      rcases optc (rt p36_3) with hq_9 | ⟨r59_9, hq_9⟩
      · skip
        refine aw_getf (n := 62) (v := .null) (C0 := RJ27) (T := TJ27) dJ27_rotateRight_59 rfl 8 q1611 (Or.inl rfl) (hT_8 p36_3 k_p36_3.1).1 (congrArg (fun z9 => some (va_rf z9)) (show rt p36_3 = none from by exact hq_9)) rfl ?_
        refine aw_aload_n (n := 63) dJ27_rotateRight_62 rfl 4 rfl rfl ?_
        refine aw_acmp_ne (n := 66) (x := none) (y := (some p)) (tgt := 74) dJ27_rotateRight_63 (by decide) rfl (fun _ => ?_) (fun z9 => absurd z9 (by simp))
        refine aw_aload_n (n := 75) dJ27_rotateRight_74 rfl 0 rfl rfl ?_
        refine aw_aload_n (n := 76) dJ27_rotateRight_75 rfl 2 rfl rfl ?_
        refine aw_putK (n := 79) (fs' := [.null, .null, .int (κ p36_3).1, .ref (κ p36_3).2.1, .ref (κ p36_3).2.2, va_rf (nx p36_3), va_rf ((up pa r (some p36_3)) p36_3), va_rf (some r), va_rf (rt p36_3), va_rf (pv p36_3), .int (bI (rd p36_3))]) (C0 := RJ27) (T := TJ27) (N := 11) (ci := 27) dJ27_rotateRight_76 rfl in_J27 tyJ27 tyJ27_ok nmJ27 q1601 7 (by decide) q1610 (Or.inl rfl) (Or.inl rfl) rfl (hT_8 p36_3 k_p36_3.1).1 (hT_8 p36_3 k_p36_3.1).2 rfl rfl (Nat.le_of_ble_eq_true rfl) rfl rfl (fun y_10 w_10 => ?_)
        have zy_10 : y_10.1 = y_8.1 := w_10.2.2
        have hT_10 := TPic.plf (v := some r) hT_8 w_10
        refine aw_aload_n (n := 80) dJ27_rotateRight_79 rfl 2 rfl rfl ?_
        refine aw_aload_n (n := 81) dJ27_rotateRight_80 rfl 4 rfl rfl ?_
        refine aw_putK (n := 84) (fs' := [.null, .null, .int (κ r).1, .ref (κ r).2.1, .ref (κ r).2.2, va_rf (nx r), va_rf ((up pa r (some p36_3)) r), va_rf ((up (up lf p none) p36_3 (some r)) r), va_rf (some p), va_rf (pv r), .int (bI (rd r))]) (C0 := RJ27) (T := TJ27) (N := 11) (ci := 27) dJ27_rotateRight_81 rfl in_J27 tyJ27 tyJ27_ok nmJ27 q1601 8 (by decide) q1611 (Or.inl rfl) (Or.inl rfl) rfl (hT_10 r q1.1).1 (hT_10 r q1.1).2 rfl rfl (Nat.le_of_ble_eq_true rfl) rfl rfl (fun y_11 w_11 => ?_)
        have zy_11 : y_11.1 = y_10.1 := w_11.2.2
        have hT_11 := TPic.prt (v := some p) hT_10 w_11
        refine aw_aload_n (n := 85) dJ27_rotateRight_84 rfl 4 rfl rfl ?_
        refine aw_aload_n (n := 86) dJ27_rotateRight_85 rfl 2 rfl rfl ?_
        refine aw_putK (n := 89) (fs' := [.null, .null, .int (κ p).1, .ref (κ p).2.1, .ref (κ p).2.2, va_rf (nx p), va_rf (some r), va_rf ((up (up lf p none) p36_3 (some r)) p), va_rf ((up rt r (some p)) p), va_rf (pv p), .int (bI (rd p))]) (C0 := RJ27) (T := TJ27) (N := 11) (ci := 27) dJ27_rotateRight_86 rfl in_J27 tyJ27 tyJ27_ok nmJ27 q1601 6 (by decide) q1609 (Or.inl rfl) (Or.inl rfl) rfl (hT_11 p hp).1 (hT_11 p hp).2 rfl rfl (Nat.le_of_ble_eq_true rfl) rfl rfl (fun y_12 w_12 => ?_)
        have zy_12 : y_12.1 = y_11.1 := w_12.2.2
        have hT_12 := TPic.ppa (v := some r) hT_11 w_12
        refine aw_aload_n (n := 90) dJ27_rotateRight_89 rfl 3 rfl rfl ?_
        have e1 : root = rRoot p r pa root := by unfold rRoot; first | (rw [if_pos (by assumption)]; done) | (rw [if_neg (by rw [‹pa p = some _›]; exact fun z => nomatch z)])
        have T9 : TPic G y_12 N κ nx (rPa p r pa rt) (rRt p r pa rt lf) (rLf p r pa rt) pv (fun q => if pa p = none ∧ q = r then false else rd q) := TPic.cg hT_12 (fun _ k => k) (fun _ _ => rfl) (fun _ _ => rfl) (fun x hx => by unfold rPa up; grind) (fun x hx => by unfold rRt up; grind) (fun x hx => by unfold rLf up; grind) (fun _ _ => rfl) (fun x hx => by first | (unfold ub; grind) | grind)
        exact aw_aret dJ27_rotateRight_90 rfl (Or.inl ⟨_, rfl⟩) (Or.inr ⟨_, rfl⟩) ⟨congrArg (fun z => some (Value.ref z)) e1, T9, (Fr.w (Fr.w (Fr.w (Fr.w (Fr.w Fr.rf w_2 (Or.inl hp)) w_8 (Or.inl q1.1)) w_10 (Or.inl k_p36_3.1)) w_11 (Or.inl q1.1)) w_12 (Or.inl hp)), by omega⟩ ⟨Nat.zero_le _, Nat.zero_le _⟩
      · skip
        refine aw_getf (n := 62) (v := .ref r59_9) (C0 := RJ27) (T := TJ27) dJ27_rotateRight_59 rfl 8 q1611 (Or.inl rfl) (hT_8 p36_3 k_p36_3.1).1 (congrArg (fun z9 => some (va_rf z9)) (show rt p36_3 = some r59_9 from by exact hq_9)) rfl ?_
        refine aw_aload_n (n := 63) dJ27_rotateRight_62 rfl 4 rfl rfl ?_
        refine aw_acmp_ne (n := 66) (x := (some r59_9)) (y := (some p)) (tgt := 74) dJ27_rotateRight_63 (by decide) rfl (fun c_63_2 => ?_) (fun c_63_2 => ?_)
        · skip
          refine aw_aload_n (n := 75) dJ27_rotateRight_74 rfl 0 rfl rfl ?_
          refine aw_aload_n (n := 76) dJ27_rotateRight_75 rfl 2 rfl rfl ?_
          refine aw_putK (n := 79) (fs' := [.null, .null, .int (κ p36_3).1, .ref (κ p36_3).2.1, .ref (κ p36_3).2.2, va_rf (nx p36_3), va_rf ((up pa r (some p36_3)) p36_3), va_rf (some r), va_rf (rt p36_3), va_rf (pv p36_3), .int (bI (rd p36_3))]) (C0 := RJ27) (T := TJ27) (N := 11) (ci := 27) dJ27_rotateRight_76 rfl in_J27 tyJ27 tyJ27_ok nmJ27 q1601 7 (by decide) q1610 (Or.inl rfl) (Or.inl rfl) rfl (hT_8 p36_3 k_p36_3.1).1 (hT_8 p36_3 k_p36_3.1).2 rfl rfl (Nat.le_of_ble_eq_true rfl) rfl rfl (fun y_13 w_13 => ?_)
          have zy_13 : y_13.1 = y_8.1 := w_13.2.2
          have hT_13 := TPic.plf (v := some r) hT_8 w_13
          refine aw_aload_n (n := 80) dJ27_rotateRight_79 rfl 2 rfl rfl ?_
          refine aw_aload_n (n := 81) dJ27_rotateRight_80 rfl 4 rfl rfl ?_
          refine aw_putK (n := 84) (fs' := [.null, .null, .int (κ r).1, .ref (κ r).2.1, .ref (κ r).2.2, va_rf (nx r), va_rf ((up pa r (some p36_3)) r), va_rf ((up (up lf p none) p36_3 (some r)) r), va_rf (some p), va_rf (pv r), .int (bI (rd r))]) (C0 := RJ27) (T := TJ27) (N := 11) (ci := 27) dJ27_rotateRight_81 rfl in_J27 tyJ27 tyJ27_ok nmJ27 q1601 8 (by decide) q1611 (Or.inl rfl) (Or.inl rfl) rfl (hT_13 r q1.1).1 (hT_13 r q1.1).2 rfl rfl (Nat.le_of_ble_eq_true rfl) rfl rfl (fun y_14 w_14 => ?_)
          have zy_14 : y_14.1 = y_13.1 := w_14.2.2
          have hT_14 := TPic.prt (v := some p) hT_13 w_14
          refine aw_aload_n (n := 85) dJ27_rotateRight_84 rfl 4 rfl rfl ?_
          refine aw_aload_n (n := 86) dJ27_rotateRight_85 rfl 2 rfl rfl ?_
          refine aw_putK (n := 89) (fs' := [.null, .null, .int (κ p).1, .ref (κ p).2.1, .ref (κ p).2.2, va_rf (nx p), va_rf (some r), va_rf ((up (up lf p none) p36_3 (some r)) p), va_rf ((up rt r (some p)) p), va_rf (pv p), .int (bI (rd p))]) (C0 := RJ27) (T := TJ27) (N := 11) (ci := 27) dJ27_rotateRight_86 rfl in_J27 tyJ27 tyJ27_ok nmJ27 q1601 6 (by decide) q1609 (Or.inl rfl) (Or.inl rfl) rfl (hT_14 p hp).1 (hT_14 p hp).2 rfl rfl (Nat.le_of_ble_eq_true rfl) rfl rfl (fun y_15 w_15 => ?_)
          have zy_15 : y_15.1 = y_14.1 := w_15.2.2
          have hT_15 := TPic.ppa (v := some r) hT_14 w_15
          refine aw_aload_n (n := 90) dJ27_rotateRight_89 rfl 3 rfl rfl ?_
          have e1 : root = rRoot p r pa root := by unfold rRoot; first | (rw [if_pos (by assumption)]; done) | (rw [if_neg (by rw [‹pa p = some _›]; exact fun z => nomatch z)])
          have T9 : TPic G y_15 N κ nx (rPa p r pa rt) (rRt p r pa rt lf) (rLf p r pa rt) pv (fun q => if pa p = none ∧ q = r then false else rd q) := TPic.cg hT_15 (fun _ k => k) (fun _ _ => rfl) (fun _ _ => rfl) (fun x hx => by unfold rPa up; grind) (fun x hx => by unfold rRt up; grind) (fun x hx => by unfold rLf up; grind) (fun _ _ => rfl) (fun x hx => by first | (unfold ub; grind) | grind)
          exact aw_aret dJ27_rotateRight_90 rfl (Or.inl ⟨_, rfl⟩) (Or.inr ⟨_, rfl⟩) ⟨congrArg (fun z => some (Value.ref z)) e1, T9, (Fr.w (Fr.w (Fr.w (Fr.w (Fr.w Fr.rf w_2 (Or.inl hp)) w_8 (Or.inl q1.1)) w_13 (Or.inl k_p36_3.1)) w_14 (Or.inl q1.1)) w_15 (Or.inl hp)), by omega⟩ ⟨Nat.zero_le _, Nat.zero_le _⟩
        · skip
          refine aw_aload_n (n := 67) dJ27_rotateRight_66 rfl 0 rfl rfl ?_
          refine aw_aload_n (n := 68) dJ27_rotateRight_67 rfl 2 rfl rfl ?_
          refine aw_putK (n := 71) (fs' := [.null, .null, .int (κ p36_3).1, .ref (κ p36_3).2.1, .ref (κ p36_3).2.2, va_rf (nx p36_3), va_rf ((up pa r (some p36_3)) p36_3), va_rf ((up lf p none) p36_3), va_rf (some r), va_rf (pv p36_3), .int (bI (rd p36_3))]) (C0 := RJ27) (T := TJ27) (N := 11) (ci := 27) dJ27_rotateRight_68 rfl in_J27 tyJ27 tyJ27_ok nmJ27 q1601 8 (by decide) q1611 (Or.inl rfl) (Or.inl rfl) rfl (hT_8 p36_3 k_p36_3.1).1 (hT_8 p36_3 k_p36_3.1).2 rfl rfl (Nat.le_of_ble_eq_true rfl) rfl rfl (fun y_16 w_16 => ?_)
          have zy_16 : y_16.1 = y_8.1 := w_16.2.2
          have hT_16 := TPic.prt (v := some r) hT_8 w_16
          refine aw_goto (tgt := 79) dJ27_rotateRight_71 (by decide) ?_
          refine aw_aload_n (n := 80) dJ27_rotateRight_79 rfl 2 rfl rfl ?_
          refine aw_aload_n (n := 81) dJ27_rotateRight_80 rfl 4 rfl rfl ?_
          refine aw_putK (n := 84) (fs' := [.null, .null, .int (κ r).1, .ref (κ r).2.1, .ref (κ r).2.2, va_rf (nx r), va_rf ((up pa r (some p36_3)) r), va_rf ((up lf p none) r), va_rf (some p), va_rf (pv r), .int (bI (rd r))]) (C0 := RJ27) (T := TJ27) (N := 11) (ci := 27) dJ27_rotateRight_81 rfl in_J27 tyJ27 tyJ27_ok nmJ27 q1601 8 (by decide) q1611 (Or.inl rfl) (Or.inl rfl) rfl (hT_16 r q1.1).1 (hT_16 r q1.1).2 rfl rfl (Nat.le_of_ble_eq_true rfl) rfl rfl (fun y_17 w_17 => ?_)
          have zy_17 : y_17.1 = y_16.1 := w_17.2.2
          have hT_17 := TPic.prt (v := some p) hT_16 w_17
          refine aw_aload_n (n := 85) dJ27_rotateRight_84 rfl 4 rfl rfl ?_
          refine aw_aload_n (n := 86) dJ27_rotateRight_85 rfl 2 rfl rfl ?_
          refine aw_putK (n := 89) (fs' := [.null, .null, .int (κ p).1, .ref (κ p).2.1, .ref (κ p).2.2, va_rf (nx p), va_rf (some r), va_rf ((up lf p none) p), va_rf ((up (up rt p36_3 (some r)) r (some p)) p), va_rf (pv p), .int (bI (rd p))]) (C0 := RJ27) (T := TJ27) (N := 11) (ci := 27) dJ27_rotateRight_86 rfl in_J27 tyJ27 tyJ27_ok nmJ27 q1601 6 (by decide) q1609 (Or.inl rfl) (Or.inl rfl) rfl (hT_17 p hp).1 (hT_17 p hp).2 rfl rfl (Nat.le_of_ble_eq_true rfl) rfl rfl (fun y_18 w_18 => ?_)
          have zy_18 : y_18.1 = y_17.1 := w_18.2.2
          have hT_18 := TPic.ppa (v := some r) hT_17 w_18
          refine aw_aload_n (n := 90) dJ27_rotateRight_89 rfl 3 rfl rfl ?_
          have e1 : root = rRoot p r pa root := by unfold rRoot; first | (rw [if_pos (by assumption)]; done) | (rw [if_neg (by rw [‹pa p = some _›]; exact fun z => nomatch z)])
          have T9 : TPic G y_18 N κ nx (rPa p r pa rt) (rRt p r pa rt lf) (rLf p r pa rt) pv (fun q => if pa p = none ∧ q = r then false else rd q) := TPic.cg hT_18 (fun _ k => k) (fun _ _ => rfl) (fun _ _ => rfl) (fun x hx => by unfold rPa up; grind) (fun x hx => by unfold rRt up; grind) (fun x hx => by unfold rLf up; grind) (fun _ _ => rfl) (fun x hx => by first | (unfold ub; grind) | grind)
          exact aw_aret dJ27_rotateRight_90 rfl (Or.inl ⟨_, rfl⟩) (Or.inr ⟨_, rfl⟩) ⟨congrArg (fun z => some (Value.ref z)) e1, T9, (Fr.w (Fr.w (Fr.w (Fr.w (Fr.w Fr.rf w_2 (Or.inl hp)) w_8 (Or.inl q1.1)) w_16 (Or.inl k_p36_3.1)) w_17 (Or.inl q1.1)) w_18 (Or.inl hp)), by omega⟩ ⟨Nat.zero_le _, Nat.zero_le _⟩
  · skip
    have k_r15_1 := q2 r15_1 hq_1
    refine aw_getf (n := 18) (v := .ref r15_1) (C0 := RJ27) (T := TJ27) dJ27_rotateRight_15 rfl 8 q1611 (Or.inl rfl) (hTP r q1.1).1 (congrArg (fun z9 => some (va_rf z9)) (show rt r = some r15_1 from by exact hq_1)) rfl ?_
    refine aw_dup_x1 (n := 19) dJ27_rotateRight_18 rfl rfl rfl ?_
    refine aw_putK (n := 22) (fs' := [.null, .null, .int (κ p).1, .ref (κ p).2.1, .ref (κ p).2.2, va_rf (nx p), va_rf (pa p), va_rf (some r15_1), va_rf (rt p), va_rf (pv p), .int (bI (rd p))]) (C0 := RJ27) (T := TJ27) (N := 11) (ci := 27) dJ27_rotateRight_19 rfl in_J27 tyJ27 tyJ27_ok nmJ27 q1601 7 (by decide) q1610 (Or.inl rfl) (Or.inl rfl) rfl (hTP p hp).1 (hTP p hp).2 rfl rfl (Nat.le_of_ble_eq_true rfl) rfl rfl (fun y_19 w_19 => ?_)
    have zy_19 : y_19.1 = h.1 := w_19.2.2
    have hT_19 := TPic.plf (v := some r15_1) hTP w_19
    refine aw_dup (n := 23) dJ27_rotateRight_22 rfl rfl ?_
    refine aw_astore (n := 25) (lv' := [(4, .ref r15_1), (2, .ref r), (0, .ref root), (1, .ref p)]) dJ27_rotateRight_23 (by decide) rfl rfl ?_
    refine aw_ifnull (n := 28) dJ27_rotateRight_25 rfl ?_
    refine aw_aload (n := 30) dJ27_rotateRight_28 0 rfl rfl ?_
    refine aw_aload_n (n := 31) dJ27_rotateRight_30 rfl 3 rfl rfl ?_
    refine aw_putK (n := 34) (fs' := [.null, .null, .int (κ r15_1).1, .ref (κ r15_1).2.1, .ref (κ r15_1).2.2, va_rf (nx r15_1), va_rf (some p), va_rf ((up lf p (some r15_1)) r15_1), va_rf (rt r15_1), va_rf (pv r15_1), .int (bI (rd r15_1))]) (C0 := RJ27) (T := TJ27) (N := 11) (ci := 27) dJ27_rotateRight_31 rfl in_J27 tyJ27 tyJ27_ok nmJ27 q1601 6 (by decide) q1609 (Or.inl rfl) (Or.inl rfl) rfl (hT_19 r15_1 k_r15_1.1).1 (hT_19 r15_1 k_r15_1.1).2 rfl rfl (Nat.le_of_ble_eq_true rfl) rfl rfl (fun y_20 w_20 => ?_)
    have zy_20 : y_20.1 = y_19.1 := w_20.2.2
    have hT_20 := TPic.ppa (v := some p) hT_19 w_20
    refine aw_aload_n (n := 35) dJ27_rotateRight_34 rfl 1 rfl rfl ?_
    refine aw_aload_n (n := 36) dJ27_rotateRight_35 rfl 3 rfl rfl ?_
    rcases optc (pa p) with hq_21 | ⟨p36_21, hq_21⟩
    · skip
      refine aw_getf (n := 39) (v := .null) (C0 := RJ27) (T := TJ27) dJ27_rotateRight_36 rfl 6 q1609 (Or.inl rfl) (hT_20 p hp).1 (congrArg (fun z9 => some (va_rf z9)) (show (up pa r15_1 (some p)) p = none from by simp only [up]; rw [if_neg (Ne.symm k_r15_1.2.1), hq_21])) rfl ?_
      refine aw_dup_x1 (n := 40) dJ27_rotateRight_39 rfl rfl rfl ?_
      refine aw_putK (n := 43) (fs' := [.null, .null, .int (κ r).1, .ref (κ r).2.1, .ref (κ r).2.2, va_rf (nx r), va_rf none, va_rf ((up lf p (some r15_1)) r), va_rf (rt r), va_rf (pv r), .int (bI (rd r))]) (C0 := RJ27) (T := TJ27) (N := 11) (ci := 27) dJ27_rotateRight_40 rfl in_J27 tyJ27 tyJ27_ok nmJ27 q1601 6 (by decide) q1609 (Or.inl rfl) (Or.inl rfl) rfl (hT_20 r q1.1).1 (hT_20 r q1.1).2 rfl rfl (Nat.le_of_ble_eq_true rfl) rfl rfl (fun y_22 w_22 => ?_)
      have zy_22 : y_22.1 = y_20.1 := w_22.2.2
      have hT_22 := TPic.ppa (v := none) hT_20 w_22
      refine aw_dup (n := 44) dJ27_rotateRight_43 rfl rfl ?_
      refine aw_astore_nN (n := 45) (lv' := [(3, .null), (4, .ref r15_1), (2, .ref r), (0, .ref root), (1, .ref p)]) dJ27_rotateRight_44 rfl (by decide) rfl rfl ?_
      refine aw_ifnonnullN (n := 48) dJ27_rotateRight_45 rfl ?_
      refine aw_aload_n (n := 49) dJ27_rotateRight_48 rfl 2 rfl rfl ?_
      refine aw_dup (n := 50) dJ27_rotateRight_49 rfl rfl ?_
      refine aw_astore_n (n := 51) (lv' := [(0, .ref r), (3, .null), (4, .ref r15_1), (2, .ref r), (1, .ref p)]) dJ27_rotateRight_50 rfl (by decide) rfl rfl ?_
      refine aw_iconst (n := 52) (v := 0) dJ27_rotateRight_51 (by decide) rfl ?_
      refine aw_putK (n := 55) (fs' := [.null, .null, .int (κ r).1, .ref (κ r).2.1, .ref (κ r).2.2, va_rf (nx r), va_rf ((up (up pa r15_1 (some p)) r none) r), va_rf ((up lf p (some r15_1)) r), va_rf (rt r), va_rf (pv r), .int (bI false)]) (C0 := RJ27) (T := TJ27) (N := 11) (ci := 27) dJ27_rotateRight_52 rfl in_J27 tyJ27 tyJ27_ok nmJ27 q1601 10 (by decide) q1614 (Or.inl rfl) (Or.inl rfl) rfl (hT_22 r q1.1).1 (hT_22 r q1.1).2 rfl rfl (Nat.le_of_ble_eq_true rfl) rfl rfl (fun y_23 w_23 => ?_)
      have zy_23 : y_23.1 = y_22.1 := w_23.2.2
      have hT_23 := TPic.prd (v := false) hT_22 w_23
      refine aw_goto (tgt := 79) dJ27_rotateRight_55 (by decide) ?_
      refine aw_aload_n (n := 80) dJ27_rotateRight_79 rfl 3 rfl rfl ?_
      refine aw_aload_n (n := 81) dJ27_rotateRight_80 rfl 4 rfl rfl ?_
      refine aw_putK (n := 84) (fs' := [.null, .null, .int (κ r).1, .ref (κ r).2.1, .ref (κ r).2.2, va_rf (nx r), va_rf ((up (up pa r15_1 (some p)) r none) r), va_rf ((up lf p (some r15_1)) r), va_rf (some p), va_rf (pv r), .int (bI ((ub rd r false) r))]) (C0 := RJ27) (T := TJ27) (N := 11) (ci := 27) dJ27_rotateRight_81 rfl in_J27 tyJ27 tyJ27_ok nmJ27 q1601 8 (by decide) q1611 (Or.inl rfl) (Or.inl rfl) rfl (hT_23 r q1.1).1 (hT_23 r q1.1).2 rfl rfl (Nat.le_of_ble_eq_true rfl) rfl rfl (fun y_24 w_24 => ?_)
      have zy_24 : y_24.1 = y_23.1 := w_24.2.2
      have hT_24 := TPic.prt (v := some p) hT_23 w_24
      refine aw_aload_n (n := 85) dJ27_rotateRight_84 rfl 4 rfl rfl ?_
      refine aw_aload_n (n := 86) dJ27_rotateRight_85 rfl 3 rfl rfl ?_
      refine aw_putK (n := 89) (fs' := [.null, .null, .int (κ p).1, .ref (κ p).2.1, .ref (κ p).2.2, va_rf (nx p), va_rf (some r), va_rf ((up lf p (some r15_1)) p), va_rf ((up rt r (some p)) p), va_rf (pv p), .int (bI ((ub rd r false) p))]) (C0 := RJ27) (T := TJ27) (N := 11) (ci := 27) dJ27_rotateRight_86 rfl in_J27 tyJ27 tyJ27_ok nmJ27 q1601 6 (by decide) q1609 (Or.inl rfl) (Or.inl rfl) rfl (hT_24 p hp).1 (hT_24 p hp).2 rfl rfl (Nat.le_of_ble_eq_true rfl) rfl rfl (fun y_25 w_25 => ?_)
      have zy_25 : y_25.1 = y_24.1 := w_25.2.2
      have hT_25 := TPic.ppa (v := some r) hT_24 w_25
      refine aw_aload_n (n := 90) dJ27_rotateRight_89 rfl 0 rfl rfl ?_
      have e1 : r = rRoot p r pa root := by unfold rRoot; first | (rw [if_pos (by assumption)]; done) | (rw [if_neg (by rw [‹pa p = some _›]; exact fun z => nomatch z)])
      have T9 : TPic G y_25 N κ nx (rPa p r pa rt) (rRt p r pa rt lf) (rLf p r pa rt) pv (fun q => if pa p = none ∧ q = r then false else rd q) := TPic.cg hT_25 (fun _ k => k) (fun _ _ => rfl) (fun _ _ => rfl) (fun x hx => by unfold rPa up; grind) (fun x hx => by unfold rRt up; grind) (fun x hx => by unfold rLf up; grind) (fun _ _ => rfl) (fun x hx => by first | (unfold ub; grind) | grind)
      exact aw_aret dJ27_rotateRight_90 rfl (Or.inl ⟨_, rfl⟩) (Or.inr ⟨_, rfl⟩) ⟨congrArg (fun z => some (Value.ref z)) e1, T9, (Fr.w (Fr.w (Fr.w (Fr.w (Fr.w (Fr.w Fr.rf w_19 (Or.inl hp)) w_20 (Or.inl k_r15_1.1)) w_22 (Or.inl q1.1)) w_23 (Or.inl q1.1)) w_24 (Or.inl q1.1)) w_25 (Or.inl hp)), by omega⟩ ⟨Nat.zero_le _, Nat.zero_le _⟩
    · skip
      have k_p36_21 := q3 p36_21 hq_21
      refine aw_getf (n := 39) (v := .ref p36_21) (C0 := RJ27) (T := TJ27) dJ27_rotateRight_36 rfl 6 q1609 (Or.inl rfl) (hT_20 p hp).1 (congrArg (fun z9 => some (va_rf z9)) (show (up pa r15_1 (some p)) p = some p36_21 from by simp only [up]; rw [if_neg (Ne.symm k_r15_1.2.1), hq_21])) rfl ?_
      refine aw_dup_x1 (n := 40) dJ27_rotateRight_39 rfl rfl rfl ?_
      refine aw_putK (n := 43) (fs' := [.null, .null, .int (κ r).1, .ref (κ r).2.1, .ref (κ r).2.2, va_rf (nx r), va_rf (some p36_21), va_rf ((up lf p (some r15_1)) r), va_rf (rt r), va_rf (pv r), .int (bI (rd r))]) (C0 := RJ27) (T := TJ27) (N := 11) (ci := 27) dJ27_rotateRight_40 rfl in_J27 tyJ27 tyJ27_ok nmJ27 q1601 6 (by decide) q1609 (Or.inl rfl) (Or.inl rfl) rfl (hT_20 r q1.1).1 (hT_20 r q1.1).2 rfl rfl (Nat.le_of_ble_eq_true rfl) rfl rfl (fun y_26 w_26 => ?_)
      have zy_26 : y_26.1 = y_20.1 := w_26.2.2
      have hT_26 := TPic.ppa (v := some p36_21) hT_20 w_26
      refine aw_dup (n := 44) dJ27_rotateRight_43 rfl rfl ?_
      refine aw_astore_n (n := 45) (lv' := [(3, .ref p36_21), (4, .ref r15_1), (2, .ref r), (0, .ref root), (1, .ref p)]) dJ27_rotateRight_44 rfl (by decide) rfl rfl ?_
      refine aw_ifnonnull (tgt := 58) dJ27_rotateRight_45 (by decide) ?_
      refine aw_aload_n (n := 59) dJ27_rotateRight_58 rfl 0 rfl rfl ?_
      rcases optc (rt p36_21) with hq_27 | ⟨r59_27, hq_27⟩
      · skip
        refine aw_getf (n := 62) (v := .null) (C0 := RJ27) (T := TJ27) dJ27_rotateRight_59 rfl 8 q1611 (Or.inl rfl) (hT_26 p36_21 k_p36_21.1).1 (congrArg (fun z9 => some (va_rf z9)) (show rt p36_21 = none from by exact hq_27)) rfl ?_
        refine aw_aload_n (n := 63) dJ27_rotateRight_62 rfl 4 rfl rfl ?_
        refine aw_acmp_ne (n := 66) (x := none) (y := (some p)) (tgt := 74) dJ27_rotateRight_63 (by decide) rfl (fun _ => ?_) (fun z9 => absurd z9 (by simp))
        refine aw_aload_n (n := 75) dJ27_rotateRight_74 rfl 0 rfl rfl ?_
        refine aw_aload_n (n := 76) dJ27_rotateRight_75 rfl 2 rfl rfl ?_
        refine aw_putK (n := 79) (fs' := [.null, .null, .int (κ p36_21).1, .ref (κ p36_21).2.1, .ref (κ p36_21).2.2, va_rf (nx p36_21), va_rf ((up (up pa r15_1 (some p)) r (some p36_21)) p36_21), va_rf (some r), va_rf (rt p36_21), va_rf (pv p36_21), .int (bI (rd p36_21))]) (C0 := RJ27) (T := TJ27) (N := 11) (ci := 27) dJ27_rotateRight_76 rfl in_J27 tyJ27 tyJ27_ok nmJ27 q1601 7 (by decide) q1610 (Or.inl rfl) (Or.inl rfl) rfl (hT_26 p36_21 k_p36_21.1).1 (hT_26 p36_21 k_p36_21.1).2 rfl rfl (Nat.le_of_ble_eq_true rfl) rfl rfl (fun y_28 w_28 => ?_)
        have zy_28 : y_28.1 = y_26.1 := w_28.2.2
        have hT_28 := TPic.plf (v := some r) hT_26 w_28
        refine aw_aload_n (n := 80) dJ27_rotateRight_79 rfl 2 rfl rfl ?_
        refine aw_aload_n (n := 81) dJ27_rotateRight_80 rfl 4 rfl rfl ?_
        refine aw_putK (n := 84) (fs' := [.null, .null, .int (κ r).1, .ref (κ r).2.1, .ref (κ r).2.2, va_rf (nx r), va_rf ((up (up pa r15_1 (some p)) r (some p36_21)) r), va_rf ((up (up lf p (some r15_1)) p36_21 (some r)) r), va_rf (some p), va_rf (pv r), .int (bI (rd r))]) (C0 := RJ27) (T := TJ27) (N := 11) (ci := 27) dJ27_rotateRight_81 rfl in_J27 tyJ27 tyJ27_ok nmJ27 q1601 8 (by decide) q1611 (Or.inl rfl) (Or.inl rfl) rfl (hT_28 r q1.1).1 (hT_28 r q1.1).2 rfl rfl (Nat.le_of_ble_eq_true rfl) rfl rfl (fun y_29 w_29 => ?_)
        have zy_29 : y_29.1 = y_28.1 := w_29.2.2
        have hT_29 := TPic.prt (v := some p) hT_28 w_29
        refine aw_aload_n (n := 85) dJ27_rotateRight_84 rfl 4 rfl rfl ?_
        refine aw_aload_n (n := 86) dJ27_rotateRight_85 rfl 2 rfl rfl ?_
        refine aw_putK (n := 89) (fs' := [.null, .null, .int (κ p).1, .ref (κ p).2.1, .ref (κ p).2.2, va_rf (nx p), va_rf (some r), va_rf ((up (up lf p (some r15_1)) p36_21 (some r)) p), va_rf ((up rt r (some p)) p), va_rf (pv p), .int (bI (rd p))]) (C0 := RJ27) (T := TJ27) (N := 11) (ci := 27) dJ27_rotateRight_86 rfl in_J27 tyJ27 tyJ27_ok nmJ27 q1601 6 (by decide) q1609 (Or.inl rfl) (Or.inl rfl) rfl (hT_29 p hp).1 (hT_29 p hp).2 rfl rfl (Nat.le_of_ble_eq_true rfl) rfl rfl (fun y_30 w_30 => ?_)
        have zy_30 : y_30.1 = y_29.1 := w_30.2.2
        have hT_30 := TPic.ppa (v := some r) hT_29 w_30
        refine aw_aload_n (n := 90) dJ27_rotateRight_89 rfl 3 rfl rfl ?_
        have e1 : root = rRoot p r pa root := by unfold rRoot; first | (rw [if_pos (by assumption)]; done) | (rw [if_neg (by rw [‹pa p = some _›]; exact fun z => nomatch z)])
        have T9 : TPic G y_30 N κ nx (rPa p r pa rt) (rRt p r pa rt lf) (rLf p r pa rt) pv (fun q => if pa p = none ∧ q = r then false else rd q) := TPic.cg hT_30 (fun _ k => k) (fun _ _ => rfl) (fun _ _ => rfl) (fun x hx => by unfold rPa up; grind) (fun x hx => by unfold rRt up; grind) (fun x hx => by unfold rLf up; grind) (fun _ _ => rfl) (fun x hx => by first | (unfold ub; grind) | grind)
        exact aw_aret dJ27_rotateRight_90 rfl (Or.inl ⟨_, rfl⟩) (Or.inr ⟨_, rfl⟩) ⟨congrArg (fun z => some (Value.ref z)) e1, T9, (Fr.w (Fr.w (Fr.w (Fr.w (Fr.w (Fr.w Fr.rf w_19 (Or.inl hp)) w_20 (Or.inl k_r15_1.1)) w_26 (Or.inl q1.1)) w_28 (Or.inl k_p36_21.1)) w_29 (Or.inl q1.1)) w_30 (Or.inl hp)), by omega⟩ ⟨Nat.zero_le _, Nat.zero_le _⟩
      · skip
        refine aw_getf (n := 62) (v := .ref r59_27) (C0 := RJ27) (T := TJ27) dJ27_rotateRight_59 rfl 8 q1611 (Or.inl rfl) (hT_26 p36_21 k_p36_21.1).1 (congrArg (fun z9 => some (va_rf z9)) (show rt p36_21 = some r59_27 from by exact hq_27)) rfl ?_
        refine aw_aload_n (n := 63) dJ27_rotateRight_62 rfl 4 rfl rfl ?_
        refine aw_acmp_ne (n := 66) (x := (some r59_27)) (y := (some p)) (tgt := 74) dJ27_rotateRight_63 (by decide) rfl (fun c_63_4 => ?_) (fun c_63_4 => ?_)
        · skip
          refine aw_aload_n (n := 75) dJ27_rotateRight_74 rfl 0 rfl rfl ?_
          refine aw_aload_n (n := 76) dJ27_rotateRight_75 rfl 2 rfl rfl ?_
          refine aw_putK (n := 79) (fs' := [.null, .null, .int (κ p36_21).1, .ref (κ p36_21).2.1, .ref (κ p36_21).2.2, va_rf (nx p36_21), va_rf ((up (up pa r15_1 (some p)) r (some p36_21)) p36_21), va_rf (some r), va_rf (rt p36_21), va_rf (pv p36_21), .int (bI (rd p36_21))]) (C0 := RJ27) (T := TJ27) (N := 11) (ci := 27) dJ27_rotateRight_76 rfl in_J27 tyJ27 tyJ27_ok nmJ27 q1601 7 (by decide) q1610 (Or.inl rfl) (Or.inl rfl) rfl (hT_26 p36_21 k_p36_21.1).1 (hT_26 p36_21 k_p36_21.1).2 rfl rfl (Nat.le_of_ble_eq_true rfl) rfl rfl (fun y_31 w_31 => ?_)
          have zy_31 : y_31.1 = y_26.1 := w_31.2.2
          have hT_31 := TPic.plf (v := some r) hT_26 w_31
          refine aw_aload_n (n := 80) dJ27_rotateRight_79 rfl 2 rfl rfl ?_
          refine aw_aload_n (n := 81) dJ27_rotateRight_80 rfl 4 rfl rfl ?_
          refine aw_putK (n := 84) (fs' := [.null, .null, .int (κ r).1, .ref (κ r).2.1, .ref (κ r).2.2, va_rf (nx r), va_rf ((up (up pa r15_1 (some p)) r (some p36_21)) r), va_rf ((up (up lf p (some r15_1)) p36_21 (some r)) r), va_rf (some p), va_rf (pv r), .int (bI (rd r))]) (C0 := RJ27) (T := TJ27) (N := 11) (ci := 27) dJ27_rotateRight_81 rfl in_J27 tyJ27 tyJ27_ok nmJ27 q1601 8 (by decide) q1611 (Or.inl rfl) (Or.inl rfl) rfl (hT_31 r q1.1).1 (hT_31 r q1.1).2 rfl rfl (Nat.le_of_ble_eq_true rfl) rfl rfl (fun y_32 w_32 => ?_)
          have zy_32 : y_32.1 = y_31.1 := w_32.2.2
          have hT_32 := TPic.prt (v := some p) hT_31 w_32
          refine aw_aload_n (n := 85) dJ27_rotateRight_84 rfl 4 rfl rfl ?_
          refine aw_aload_n (n := 86) dJ27_rotateRight_85 rfl 2 rfl rfl ?_
          refine aw_putK (n := 89) (fs' := [.null, .null, .int (κ p).1, .ref (κ p).2.1, .ref (κ p).2.2, va_rf (nx p), va_rf (some r), va_rf ((up (up lf p (some r15_1)) p36_21 (some r)) p), va_rf ((up rt r (some p)) p), va_rf (pv p), .int (bI (rd p))]) (C0 := RJ27) (T := TJ27) (N := 11) (ci := 27) dJ27_rotateRight_86 rfl in_J27 tyJ27 tyJ27_ok nmJ27 q1601 6 (by decide) q1609 (Or.inl rfl) (Or.inl rfl) rfl (hT_32 p hp).1 (hT_32 p hp).2 rfl rfl (Nat.le_of_ble_eq_true rfl) rfl rfl (fun y_33 w_33 => ?_)
          have zy_33 : y_33.1 = y_32.1 := w_33.2.2
          have hT_33 := TPic.ppa (v := some r) hT_32 w_33
          refine aw_aload_n (n := 90) dJ27_rotateRight_89 rfl 3 rfl rfl ?_
          have e1 : root = rRoot p r pa root := by unfold rRoot; first | (rw [if_pos (by assumption)]; done) | (rw [if_neg (by rw [‹pa p = some _›]; exact fun z => nomatch z)])
          have T9 : TPic G y_33 N κ nx (rPa p r pa rt) (rRt p r pa rt lf) (rLf p r pa rt) pv (fun q => if pa p = none ∧ q = r then false else rd q) := TPic.cg hT_33 (fun _ k => k) (fun _ _ => rfl) (fun _ _ => rfl) (fun x hx => by unfold rPa up; grind) (fun x hx => by unfold rRt up; grind) (fun x hx => by unfold rLf up; grind) (fun _ _ => rfl) (fun x hx => by first | (unfold ub; grind) | grind)
          exact aw_aret dJ27_rotateRight_90 rfl (Or.inl ⟨_, rfl⟩) (Or.inr ⟨_, rfl⟩) ⟨congrArg (fun z => some (Value.ref z)) e1, T9, (Fr.w (Fr.w (Fr.w (Fr.w (Fr.w (Fr.w Fr.rf w_19 (Or.inl hp)) w_20 (Or.inl k_r15_1.1)) w_26 (Or.inl q1.1)) w_31 (Or.inl k_p36_21.1)) w_32 (Or.inl q1.1)) w_33 (Or.inl hp)), by omega⟩ ⟨Nat.zero_le _, Nat.zero_le _⟩
        · skip
          refine aw_aload_n (n := 67) dJ27_rotateRight_66 rfl 0 rfl rfl ?_
          refine aw_aload_n (n := 68) dJ27_rotateRight_67 rfl 2 rfl rfl ?_
          refine aw_putK (n := 71) (fs' := [.null, .null, .int (κ p36_21).1, .ref (κ p36_21).2.1, .ref (κ p36_21).2.2, va_rf (nx p36_21), va_rf ((up (up pa r15_1 (some p)) r (some p36_21)) p36_21), va_rf ((up lf p (some r15_1)) p36_21), va_rf (some r), va_rf (pv p36_21), .int (bI (rd p36_21))]) (C0 := RJ27) (T := TJ27) (N := 11) (ci := 27) dJ27_rotateRight_68 rfl in_J27 tyJ27 tyJ27_ok nmJ27 q1601 8 (by decide) q1611 (Or.inl rfl) (Or.inl rfl) rfl (hT_26 p36_21 k_p36_21.1).1 (hT_26 p36_21 k_p36_21.1).2 rfl rfl (Nat.le_of_ble_eq_true rfl) rfl rfl (fun y_34 w_34 => ?_)
          have zy_34 : y_34.1 = y_26.1 := w_34.2.2
          have hT_34 := TPic.prt (v := some r) hT_26 w_34
          refine aw_goto (tgt := 79) dJ27_rotateRight_71 (by decide) ?_
          refine aw_aload_n (n := 80) dJ27_rotateRight_79 rfl 2 rfl rfl ?_
          refine aw_aload_n (n := 81) dJ27_rotateRight_80 rfl 4 rfl rfl ?_
          refine aw_putK (n := 84) (fs' := [.null, .null, .int (κ r).1, .ref (κ r).2.1, .ref (κ r).2.2, va_rf (nx r), va_rf ((up (up pa r15_1 (some p)) r (some p36_21)) r), va_rf ((up lf p (some r15_1)) r), va_rf (some p), va_rf (pv r), .int (bI (rd r))]) (C0 := RJ27) (T := TJ27) (N := 11) (ci := 27) dJ27_rotateRight_81 rfl in_J27 tyJ27 tyJ27_ok nmJ27 q1601 8 (by decide) q1611 (Or.inl rfl) (Or.inl rfl) rfl (hT_34 r q1.1).1 (hT_34 r q1.1).2 rfl rfl (Nat.le_of_ble_eq_true rfl) rfl rfl (fun y_35 w_35 => ?_)
          have zy_35 : y_35.1 = y_34.1 := w_35.2.2
          have hT_35 := TPic.prt (v := some p) hT_34 w_35
          refine aw_aload_n (n := 85) dJ27_rotateRight_84 rfl 4 rfl rfl ?_
          refine aw_aload_n (n := 86) dJ27_rotateRight_85 rfl 2 rfl rfl ?_
          refine aw_putK (n := 89) (fs' := [.null, .null, .int (κ p).1, .ref (κ p).2.1, .ref (κ p).2.2, va_rf (nx p), va_rf (some r), va_rf ((up lf p (some r15_1)) p), va_rf ((up (up rt p36_21 (some r)) r (some p)) p), va_rf (pv p), .int (bI (rd p))]) (C0 := RJ27) (T := TJ27) (N := 11) (ci := 27) dJ27_rotateRight_86 rfl in_J27 tyJ27 tyJ27_ok nmJ27 q1601 6 (by decide) q1609 (Or.inl rfl) (Or.inl rfl) rfl (hT_35 p hp).1 (hT_35 p hp).2 rfl rfl (Nat.le_of_ble_eq_true rfl) rfl rfl (fun y_36 w_36 => ?_)
          have zy_36 : y_36.1 = y_35.1 := w_36.2.2
          have hT_36 := TPic.ppa (v := some r) hT_35 w_36
          refine aw_aload_n (n := 90) dJ27_rotateRight_89 rfl 3 rfl rfl ?_
          have e1 : root = rRoot p r pa root := by unfold rRoot; first | (rw [if_pos (by assumption)]; done) | (rw [if_neg (by rw [‹pa p = some _›]; exact fun z => nomatch z)])
          have T9 : TPic G y_36 N κ nx (rPa p r pa rt) (rRt p r pa rt lf) (rLf p r pa rt) pv (fun q => if pa p = none ∧ q = r then false else rd q) := TPic.cg hT_36 (fun _ k => k) (fun _ _ => rfl) (fun _ _ => rfl) (fun x hx => by unfold rPa up; grind) (fun x hx => by unfold rRt up; grind) (fun x hx => by unfold rLf up; grind) (fun _ _ => rfl) (fun x hx => by first | (unfold ub; grind) | grind)
          exact aw_aret dJ27_rotateRight_90 rfl (Or.inl ⟨_, rfl⟩) (Or.inr ⟨_, rfl⟩) ⟨congrArg (fun z => some (Value.ref z)) e1, T9, (Fr.w (Fr.w (Fr.w (Fr.w (Fr.w (Fr.w Fr.rf w_19 (Or.inl hp)) w_20 (Or.inl k_r15_1.1)) w_26 (Or.inl q1.1)) w_34 (Or.inl k_p36_21.1)) w_35 (Or.inl q1.1)) w_36 (Or.inl hp)), by omega⟩ ⟨Nat.zero_le _, Nat.zero_le _⟩

end
